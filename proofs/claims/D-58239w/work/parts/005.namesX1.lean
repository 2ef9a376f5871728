/-! QuarryOrders$Quarry -/
set_option maxRecDepth 100000
def RX1 : String := "QuarryOrders$Quarry"
def TX1 : u_T := fun k => match k with
  | 0 => ("QuarryOrders$Quarry", "settings", "[I", false)
  | 1 => ("QuarryOrders$Quarry", "front", "[I", false)
  | 2 => ("QuarryOrders$Quarry", "rear", "[I", false)
  | 3 => ("QuarryOrders$Quarry", "load", "[I", false)
  | 4 => ("QuarryOrders$Quarry", "left", "[I", false)
  | 5 => ("QuarryOrders$Quarry", "blocks", "Ljava/util/List;", true)
  | 6 => ("QuarryOrders$Quarry", "orders", "Ljava/util/List;", true)
  | 7 => ("QuarryOrders$Quarry", "frost", "Z", false)
  | 8 => ("QuarryOrders$Quarry", "nights", "I", false)
  | 9 => ("QuarryOrders$Quarry", "quarried", "I", false)
  | 10 => ("QuarryOrders$Quarry", "lost", "I", false)
  | 11 => ("QuarryOrders$Quarry", "delivered", "I", false)
  | _ => ("QuarryOrders$Quarry", "invoices", "I", false)
def tyX1 : Nat → FieldType := fun k => match k with
  | 0 => .array .int
  | 1 => .array .int
  | 2 => .array .int
  | 3 => .array .int
  | 4 => .array .int
  | 5 => .object "java/util/List"
  | 6 => .object "java/util/List"
  | 7 => .boolean
  | 8 => .int
  | 9 => .int
  | 10 => .int
  | 11 => .int
  | _ => .int
abbrev wsX10 : List Cond := u_ws RX1 TX1 13
set_option maxRecDepth 100000 in
theorem nmX1 : ∀ a, a < 13 → ∀ b, b < 13 → a ≠ b → (TX1 a).2.1 ≠ (TX1 b).2.1 := by decide +kernel
set_option maxRecDepth 100000 in
theorem tyX1_ok : ∀ k, k < 13 → parseFieldDescriptor (TX1 k).2.2.1 = some (tyX1 k) := by decide +kernel
abbrev cX1_init : ByteArray := prog_4_method_1_code
def yX1_init : MethodName := ⟨RX1, "<init>", "()V"⟩
def dkwX1_init_0 : List UInt8 := [42, 17, 15, 160, 17, 31, 64, 17, 39, 16, 183, 0, 3, 177]
abbrev dktX1_init_0 : List UInt8 := dkwX1_init_0 ++ []
theorem dksX1_init_0 : cX1_init.data.toList.drop 0 = dktX1_init_0 := by decide +kernel
theorem dX1_init_0 : decode cX1_init 0 = .ok (.aload_n 0, 1) := dk_42 (dk_at dksX1_init_0 0 rfl rfl)
theorem dX1_init_1 : decode cX1_init 1 = .ok (.sipush 4000, 3) := dk_17 15 160 (dk_at dksX1_init_0 1 rfl rfl)
theorem dX1_init_4 : decode cX1_init 4 = .ok (.sipush 8000, 3) := dk_17 31 64 (dk_at dksX1_init_0 4 rfl rfl)
theorem dX1_init_7 : decode cX1_init 7 = .ok (.sipush 10000, 3) := dk_17 39 16 (dk_at dksX1_init_0 7 rfl rfl)
theorem dX1_init_10 : decode cX1_init 10 = .ok (.invokespecial 3, 3) := dk_183 0 3 (dk_at dksX1_init_0 10 rfl rfl)
theorem dX1_init_13 : decode cX1_init 13 = .ok (.return_, 1) := dk_177 (dk_at dksX1_init_0 13 rfl rfl)
abbrev cX1_init_2 : ByteArray := prog_4_method_2_code
def yX1_init_2 : MethodName := ⟨RX1, "<init>", "(III)V"⟩
def dkwX1_init_2_4 : List UInt8 := [180, 0, 32, 21, 4, 29, 79, 132, 4, 1, 167, 255, 223, 177]
abbrev dktX1_init_2_4 : List UInt8 := dkwX1_init_2_4 ++ []
def dkwX1_init_2_3 : List UInt8 := [21, 4, 6, 162, 0, 33, 42, 180, 0, 26, 21, 4, 27, 79, 42, 180, 0, 29, 21, 4, 28, 79, 42]
abbrev dktX1_init_2_3 : List UInt8 := dkwX1_init_2_3 ++ dktX1_init_2_4
def dkwX1_init_2_2 : List UInt8 := [187, 0, 38, 89, 183, 0, 40, 181, 0, 41, 42, 187, 0, 38, 89, 183, 0, 40, 181, 0, 45, 3, 54, 4]
abbrev dktX1_init_2_2 : List UInt8 := dkwX1_init_2_2 ++ dktX1_init_2_3
def dkwX1_init_2_1 : List UInt8 := [42, 6, 188, 10, 181, 0, 29, 42, 6, 188, 10, 181, 0, 32, 42, 6, 188, 10, 181, 0, 35, 42]
abbrev dktX1_init_2_1 : List UInt8 := dkwX1_init_2_1 ++ dktX1_init_2_2
def dkwX1_init_2_0 : List UInt8 := [42, 183, 0, 9, 42, 178, 0, 14, 182, 0, 18, 192, 0, 19, 181, 0, 23, 42, 6, 188, 10, 181, 0, 26]
abbrev dktX1_init_2_0 : List UInt8 := dkwX1_init_2_0 ++ dktX1_init_2_1
theorem dksX1_init_2_0 : cX1_init_2.data.toList.drop 0 = dktX1_init_2_0 := by decide +kernel
theorem dksX1_init_2_1 : cX1_init_2.data.toList.drop 24 = dktX1_init_2_1 := dk_seg dksX1_init_2_0 24 rfl rfl
theorem dksX1_init_2_2 : cX1_init_2.data.toList.drop 46 = dktX1_init_2_2 := dk_seg dksX1_init_2_1 22 rfl rfl
theorem dksX1_init_2_3 : cX1_init_2.data.toList.drop 70 = dktX1_init_2_3 := dk_seg dksX1_init_2_2 24 rfl rfl
theorem dksX1_init_2_4 : cX1_init_2.data.toList.drop 93 = dktX1_init_2_4 := dk_seg dksX1_init_2_3 23 rfl rfl
theorem dX1_init_2_0 : decode cX1_init_2 0 = .ok (.aload_n 0, 1) := dk_42 (dk_at dksX1_init_2_0 0 rfl rfl)
theorem dX1_init_2_1 : decode cX1_init_2 1 = .ok (.invokespecial 9, 3) := dk_183 0 9 (dk_at dksX1_init_2_0 1 rfl rfl)
theorem dX1_init_2_4 : decode cX1_init_2 4 = .ok (.aload_n 0, 1) := dk_42 (dk_at dksX1_init_2_0 4 rfl rfl)
theorem dX1_init_2_5 : decode cX1_init_2 5 = .ok (.getstatic 14, 3) := dk_178 0 14 (dk_at dksX1_init_2_0 5 rfl rfl)
theorem dX1_init_2_8 : decode cX1_init_2 8 = .ok (.invokevirtual 18, 3) := dk_182 0 18 (dk_at dksX1_init_2_0 8 rfl rfl)
theorem dX1_init_2_11 : decode cX1_init_2 11 = .ok (.checkcast 19, 3) := dk_192 0 19 (dk_at dksX1_init_2_0 11 rfl rfl)
theorem dX1_init_2_14 : decode cX1_init_2 14 = .ok (.putfield 23, 3) := dk_181 0 23 (dk_at dksX1_init_2_0 14 rfl rfl)
theorem dX1_init_2_17 : decode cX1_init_2 17 = .ok (.aload_n 0, 1) := dk_42 (dk_at dksX1_init_2_0 17 rfl rfl)
theorem dX1_init_2_18 : decode cX1_init_2 18 = .ok (.iconst 3, 1) := dk_6 (dk_at dksX1_init_2_0 18 rfl rfl)
theorem dX1_init_2_19 : decode cX1_init_2 19 = .ok (.newarray .int, 2) := dk_188_10 (dk_at dksX1_init_2_0 19 rfl rfl)
theorem dX1_init_2_21 : decode cX1_init_2 21 = .ok (.putfield 26, 3) := dk_181 0 26 (dk_at dksX1_init_2_0 21 rfl rfl)
theorem dX1_init_2_24 : decode cX1_init_2 24 = .ok (.aload_n 0, 1) := dk_42 (dk_at dksX1_init_2_1 0 rfl rfl)
theorem dX1_init_2_25 : decode cX1_init_2 25 = .ok (.iconst 3, 1) := dk_6 (dk_at dksX1_init_2_1 1 rfl rfl)
theorem dX1_init_2_26 : decode cX1_init_2 26 = .ok (.newarray .int, 2) := dk_188_10 (dk_at dksX1_init_2_1 2 rfl rfl)
theorem dX1_init_2_28 : decode cX1_init_2 28 = .ok (.putfield 29, 3) := dk_181 0 29 (dk_at dksX1_init_2_1 4 rfl rfl)
theorem dX1_init_2_31 : decode cX1_init_2 31 = .ok (.aload_n 0, 1) := dk_42 (dk_at dksX1_init_2_1 7 rfl rfl)
theorem dX1_init_2_32 : decode cX1_init_2 32 = .ok (.iconst 3, 1) := dk_6 (dk_at dksX1_init_2_1 8 rfl rfl)
theorem dX1_init_2_33 : decode cX1_init_2 33 = .ok (.newarray .int, 2) := dk_188_10 (dk_at dksX1_init_2_1 9 rfl rfl)
theorem dX1_init_2_35 : decode cX1_init_2 35 = .ok (.putfield 32, 3) := dk_181 0 32 (dk_at dksX1_init_2_1 11 rfl rfl)
theorem dX1_init_2_38 : decode cX1_init_2 38 = .ok (.aload_n 0, 1) := dk_42 (dk_at dksX1_init_2_1 14 rfl rfl)
theorem dX1_init_2_39 : decode cX1_init_2 39 = .ok (.iconst 3, 1) := dk_6 (dk_at dksX1_init_2_1 15 rfl rfl)
theorem dX1_init_2_40 : decode cX1_init_2 40 = .ok (.newarray .int, 2) := dk_188_10 (dk_at dksX1_init_2_1 16 rfl rfl)
theorem dX1_init_2_42 : decode cX1_init_2 42 = .ok (.putfield 35, 3) := dk_181 0 35 (dk_at dksX1_init_2_1 18 rfl rfl)
theorem dX1_init_2_45 : decode cX1_init_2 45 = .ok (.aload_n 0, 1) := dk_42 (dk_at dksX1_init_2_1 21 rfl rfl)
theorem dX1_init_2_46 : decode cX1_init_2 46 = .ok (.new 38, 3) := dk_187 0 38 (dk_at dksX1_init_2_2 0 rfl rfl)
theorem dX1_init_2_49 : decode cX1_init_2 49 = .ok (.dup, 1) := dk_89 (dk_at dksX1_init_2_2 3 rfl rfl)
theorem dX1_init_2_50 : decode cX1_init_2 50 = .ok (.invokespecial 40, 3) := dk_183 0 40 (dk_at dksX1_init_2_2 4 rfl rfl)
theorem dX1_init_2_53 : decode cX1_init_2 53 = .ok (.putfield 41, 3) := dk_181 0 41 (dk_at dksX1_init_2_2 7 rfl rfl)
theorem dX1_init_2_56 : decode cX1_init_2 56 = .ok (.aload_n 0, 1) := dk_42 (dk_at dksX1_init_2_2 10 rfl rfl)
theorem dX1_init_2_57 : decode cX1_init_2 57 = .ok (.new 38, 3) := dk_187 0 38 (dk_at dksX1_init_2_2 11 rfl rfl)
theorem dX1_init_2_60 : decode cX1_init_2 60 = .ok (.dup, 1) := dk_89 (dk_at dksX1_init_2_2 14 rfl rfl)
theorem dX1_init_2_61 : decode cX1_init_2 61 = .ok (.invokespecial 40, 3) := dk_183 0 40 (dk_at dksX1_init_2_2 15 rfl rfl)
theorem dX1_init_2_64 : decode cX1_init_2 64 = .ok (.putfield 45, 3) := dk_181 0 45 (dk_at dksX1_init_2_2 18 rfl rfl)
theorem dX1_init_2_67 : decode cX1_init_2 67 = .ok (.iconst 0, 1) := dk_3 (dk_at dksX1_init_2_2 21 rfl rfl)
theorem dX1_init_2_68 : decode cX1_init_2 68 = .ok (.istore 4, 2) := dk_54 4 (dk_at dksX1_init_2_2 22 rfl rfl)
theorem dX1_init_2_70 : decode cX1_init_2 70 = .ok (.iload 4, 2) := dk_21 4 (dk_at dksX1_init_2_3 0 rfl rfl)
theorem dX1_init_2_72 : decode cX1_init_2 72 = .ok (.iconst 3, 1) := dk_6 (dk_at dksX1_init_2_3 2 rfl rfl)
theorem dX1_init_2_73 : decode cX1_init_2 73 = .ok (.if_icmp .ge 33, 3) := dk_162 0 33 (dk_at dksX1_init_2_3 3 rfl rfl)
theorem dX1_init_2_76 : decode cX1_init_2 76 = .ok (.aload_n 0, 1) := dk_42 (dk_at dksX1_init_2_3 6 rfl rfl)
theorem dX1_init_2_77 : decode cX1_init_2 77 = .ok (.getfield 26, 3) := dk_180 0 26 (dk_at dksX1_init_2_3 7 rfl rfl)
theorem dX1_init_2_80 : decode cX1_init_2 80 = .ok (.iload 4, 2) := dk_21 4 (dk_at dksX1_init_2_3 10 rfl rfl)
theorem dX1_init_2_82 : decode cX1_init_2 82 = .ok (.iload_n 1, 1) := dk_27 (dk_at dksX1_init_2_3 12 rfl rfl)
theorem dX1_init_2_83 : decode cX1_init_2 83 = .ok (.iastore, 1) := dk_79 (dk_at dksX1_init_2_3 13 rfl rfl)
theorem dX1_init_2_84 : decode cX1_init_2 84 = .ok (.aload_n 0, 1) := dk_42 (dk_at dksX1_init_2_3 14 rfl rfl)
theorem dX1_init_2_85 : decode cX1_init_2 85 = .ok (.getfield 29, 3) := dk_180 0 29 (dk_at dksX1_init_2_3 15 rfl rfl)
theorem dX1_init_2_88 : decode cX1_init_2 88 = .ok (.iload 4, 2) := dk_21 4 (dk_at dksX1_init_2_3 18 rfl rfl)
theorem dX1_init_2_90 : decode cX1_init_2 90 = .ok (.iload_n 2, 1) := dk_28 (dk_at dksX1_init_2_3 20 rfl rfl)
theorem dX1_init_2_91 : decode cX1_init_2 91 = .ok (.iastore, 1) := dk_79 (dk_at dksX1_init_2_3 21 rfl rfl)
theorem dX1_init_2_92 : decode cX1_init_2 92 = .ok (.aload_n 0, 1) := dk_42 (dk_at dksX1_init_2_3 22 rfl rfl)
theorem dX1_init_2_93 : decode cX1_init_2 93 = .ok (.getfield 32, 3) := dk_180 0 32 (dk_at dksX1_init_2_4 0 rfl rfl)
theorem dX1_init_2_96 : decode cX1_init_2 96 = .ok (.iload 4, 2) := dk_21 4 (dk_at dksX1_init_2_4 3 rfl rfl)
theorem dX1_init_2_98 : decode cX1_init_2 98 = .ok (.iload_n 3, 1) := dk_29 (dk_at dksX1_init_2_4 5 rfl rfl)
theorem dX1_init_2_99 : decode cX1_init_2 99 = .ok (.iastore, 1) := dk_79 (dk_at dksX1_init_2_4 6 rfl rfl)
theorem dX1_init_2_100 : decode cX1_init_2 100 = .ok (.iinc 4 1, 3) := dk_132 4 1 (dk_at dksX1_init_2_4 7 rfl rfl)
theorem dX1_init_2_103 : decode cX1_init_2 103 = .ok (.goto (-33), 3) := dk_167 255 223 (dk_at dksX1_init_2_4 10 rfl rfl)
theorem dX1_init_2_106 : decode cX1_init_2 106 = .ok (.return_, 1) := dk_177 (dk_at dksX1_init_2_4 13 rfl rfl)
abbrev cX1_copy : ByteArray := prog_4_method_3_code
def yX1_copy : MethodName := ⟨RX1, "copy", "()LQuarryOrders$Quarry;"⟩
def dkwX1_copy_9 : List UInt8 := [180, 0, 89, 181, 0, 89, 43, 42, 180, 0, 92, 181, 0, 92, 43, 42, 180, 0, 95, 181, 0, 95, 43, 176]
abbrev dktX1_copy_9 : List UInt8 := dkwX1_copy_9 ++ []
def dkwX1_copy_8 : List UInt8 := [180, 0, 78, 181, 0, 78, 43, 42, 180, 0, 82, 181, 0, 82, 43, 42, 180, 0, 86, 181, 0, 86, 43, 42]
abbrev dktX1_copy_8 : List UInt8 := dkwX1_copy_8 ++ dktX1_copy_9
def dkwX1_copy_7 : List UInt8 := [78, 43, 180, 0, 45, 187, 0, 73, 89, 45, 183, 0, 75, 185, 0, 69, 2, 0, 87, 167, 255, 219, 43, 42]
abbrev dktX1_copy_7 : List UInt8 := dkwX1_copy_7 ++ dktX1_copy_8
def dkwX1_copy_6 : List UInt8 := [185, 0, 49, 1, 0, 77, 44, 185, 0, 55, 1, 0, 153, 0, 34, 44, 185, 0, 61, 1, 0, 192, 0, 73]
abbrev dktX1_copy_6 : List UInt8 := dkwX1_copy_6 ++ dktX1_copy_7
def dkwX1_copy_5 : List UInt8 := [187, 0, 64, 89, 45, 183, 0, 66, 185, 0, 69, 2, 0, 87, 167, 255, 219, 42, 180, 0, 45]
abbrev dktX1_copy_5 : List UInt8 := dkwX1_copy_5 ++ dktX1_copy_6
def dkwX1_copy_4 : List UInt8 := [185, 0, 55, 1, 0, 153, 0, 34, 44, 185, 0, 61, 1, 0, 192, 0, 64, 78, 43, 180, 0, 41]
abbrev dktX1_copy_4 : List UInt8 := dkwX1_copy_4 ++ dktX1_copy_5
def dkwX1_copy_3 : List UInt8 := [182, 0, 18, 192, 0, 19, 181, 0, 35, 42, 180, 0, 41, 185, 0, 49, 1, 0, 77, 44]
abbrev dktX1_copy_3 : List UInt8 := dkwX1_copy_3 ++ dktX1_copy_4
def dkwX1_copy_2 : List UInt8 := [181, 0, 29, 43, 42, 180, 0, 32, 182, 0, 18, 192, 0, 19, 181, 0, 32, 43, 42, 180, 0, 35]
abbrev dktX1_copy_2 : List UInt8 := dkwX1_copy_2 ++ dktX1_copy_3
def dkwX1_copy_1 : List UInt8 := [180, 0, 26, 182, 0, 18, 192, 0, 19, 181, 0, 26, 43, 42, 180, 0, 29, 182, 0, 18, 192, 0, 19]
abbrev dktX1_copy_1 : List UInt8 := dkwX1_copy_1 ++ dktX1_copy_2
def dkwX1_copy_0 : List UInt8 := [187, 0, 4, 89, 183, 0, 48, 76, 43, 42, 180, 0, 23, 182, 0, 18, 192, 0, 19, 181, 0, 23, 43, 42]
abbrev dktX1_copy_0 : List UInt8 := dkwX1_copy_0 ++ dktX1_copy_1
theorem dksX1_copy_0 : cX1_copy.data.toList.drop 0 = dktX1_copy_0 := by decide +kernel
theorem dksX1_copy_1 : cX1_copy.data.toList.drop 24 = dktX1_copy_1 := dk_seg dksX1_copy_0 24 rfl rfl
theorem dksX1_copy_2 : cX1_copy.data.toList.drop 47 = dktX1_copy_2 := dk_seg dksX1_copy_1 23 rfl rfl
theorem dksX1_copy_3 : cX1_copy.data.toList.drop 69 = dktX1_copy_3 := dk_seg dksX1_copy_2 22 rfl rfl
theorem dksX1_copy_4 : cX1_copy.data.toList.drop 89 = dktX1_copy_4 := dk_seg dksX1_copy_3 20 rfl rfl
theorem dksX1_copy_5 : cX1_copy.data.toList.drop 111 = dktX1_copy_5 := dk_seg dksX1_copy_4 22 rfl rfl
theorem dksX1_copy_6 : cX1_copy.data.toList.drop 132 = dktX1_copy_6 := dk_seg dksX1_copy_5 21 rfl rfl
theorem dksX1_copy_7 : cX1_copy.data.toList.drop 156 = dktX1_copy_7 := dk_seg dksX1_copy_6 24 rfl rfl
theorem dksX1_copy_8 : cX1_copy.data.toList.drop 180 = dktX1_copy_8 := dk_seg dksX1_copy_7 24 rfl rfl
theorem dksX1_copy_9 : cX1_copy.data.toList.drop 204 = dktX1_copy_9 := dk_seg dksX1_copy_8 24 rfl rfl
theorem dX1_copy_0 : decode cX1_copy 0 = .ok (.new 4, 3) := dk_187 0 4 (dk_at dksX1_copy_0 0 rfl rfl)
theorem dX1_copy_3 : decode cX1_copy 3 = .ok (.dup, 1) := dk_89 (dk_at dksX1_copy_0 3 rfl rfl)
theorem dX1_copy_4 : decode cX1_copy 4 = .ok (.invokespecial 48, 3) := dk_183 0 48 (dk_at dksX1_copy_0 4 rfl rfl)
theorem dX1_copy_7 : decode cX1_copy 7 = .ok (.astore_n 1, 1) := dk_76 (dk_at dksX1_copy_0 7 rfl rfl)
theorem dX1_copy_8 : decode cX1_copy 8 = .ok (.aload_n 1, 1) := dk_43 (dk_at dksX1_copy_0 8 rfl rfl)
theorem dX1_copy_9 : decode cX1_copy 9 = .ok (.aload_n 0, 1) := dk_42 (dk_at dksX1_copy_0 9 rfl rfl)
theorem dX1_copy_10 : decode cX1_copy 10 = .ok (.getfield 23, 3) := dk_180 0 23 (dk_at dksX1_copy_0 10 rfl rfl)
theorem dX1_copy_13 : decode cX1_copy 13 = .ok (.invokevirtual 18, 3) := dk_182 0 18 (dk_at dksX1_copy_0 13 rfl rfl)
theorem dX1_copy_16 : decode cX1_copy 16 = .ok (.checkcast 19, 3) := dk_192 0 19 (dk_at dksX1_copy_0 16 rfl rfl)
theorem dX1_copy_19 : decode cX1_copy 19 = .ok (.putfield 23, 3) := dk_181 0 23 (dk_at dksX1_copy_0 19 rfl rfl)
theorem dX1_copy_22 : decode cX1_copy 22 = .ok (.aload_n 1, 1) := dk_43 (dk_at dksX1_copy_0 22 rfl rfl)
theorem dX1_copy_23 : decode cX1_copy 23 = .ok (.aload_n 0, 1) := dk_42 (dk_at dksX1_copy_0 23 rfl rfl)
theorem dX1_copy_24 : decode cX1_copy 24 = .ok (.getfield 26, 3) := dk_180 0 26 (dk_at dksX1_copy_1 0 rfl rfl)
theorem dX1_copy_27 : decode cX1_copy 27 = .ok (.invokevirtual 18, 3) := dk_182 0 18 (dk_at dksX1_copy_1 3 rfl rfl)
theorem dX1_copy_30 : decode cX1_copy 30 = .ok (.checkcast 19, 3) := dk_192 0 19 (dk_at dksX1_copy_1 6 rfl rfl)
theorem dX1_copy_33 : decode cX1_copy 33 = .ok (.putfield 26, 3) := dk_181 0 26 (dk_at dksX1_copy_1 9 rfl rfl)
theorem dX1_copy_36 : decode cX1_copy 36 = .ok (.aload_n 1, 1) := dk_43 (dk_at dksX1_copy_1 12 rfl rfl)
theorem dX1_copy_37 : decode cX1_copy 37 = .ok (.aload_n 0, 1) := dk_42 (dk_at dksX1_copy_1 13 rfl rfl)
theorem dX1_copy_38 : decode cX1_copy 38 = .ok (.getfield 29, 3) := dk_180 0 29 (dk_at dksX1_copy_1 14 rfl rfl)
theorem dX1_copy_41 : decode cX1_copy 41 = .ok (.invokevirtual 18, 3) := dk_182 0 18 (dk_at dksX1_copy_1 17 rfl rfl)
theorem dX1_copy_44 : decode cX1_copy 44 = .ok (.checkcast 19, 3) := dk_192 0 19 (dk_at dksX1_copy_1 20 rfl rfl)
theorem dX1_copy_47 : decode cX1_copy 47 = .ok (.putfield 29, 3) := dk_181 0 29 (dk_at dksX1_copy_2 0 rfl rfl)
theorem dX1_copy_50 : decode cX1_copy 50 = .ok (.aload_n 1, 1) := dk_43 (dk_at dksX1_copy_2 3 rfl rfl)
theorem dX1_copy_51 : decode cX1_copy 51 = .ok (.aload_n 0, 1) := dk_42 (dk_at dksX1_copy_2 4 rfl rfl)
theorem dX1_copy_52 : decode cX1_copy 52 = .ok (.getfield 32, 3) := dk_180 0 32 (dk_at dksX1_copy_2 5 rfl rfl)
theorem dX1_copy_55 : decode cX1_copy 55 = .ok (.invokevirtual 18, 3) := dk_182 0 18 (dk_at dksX1_copy_2 8 rfl rfl)
theorem dX1_copy_58 : decode cX1_copy 58 = .ok (.checkcast 19, 3) := dk_192 0 19 (dk_at dksX1_copy_2 11 rfl rfl)
theorem dX1_copy_61 : decode cX1_copy 61 = .ok (.putfield 32, 3) := dk_181 0 32 (dk_at dksX1_copy_2 14 rfl rfl)
theorem dX1_copy_64 : decode cX1_copy 64 = .ok (.aload_n 1, 1) := dk_43 (dk_at dksX1_copy_2 17 rfl rfl)
theorem dX1_copy_65 : decode cX1_copy 65 = .ok (.aload_n 0, 1) := dk_42 (dk_at dksX1_copy_2 18 rfl rfl)
theorem dX1_copy_66 : decode cX1_copy 66 = .ok (.getfield 35, 3) := dk_180 0 35 (dk_at dksX1_copy_2 19 rfl rfl)
theorem dX1_copy_69 : decode cX1_copy 69 = .ok (.invokevirtual 18, 3) := dk_182 0 18 (dk_at dksX1_copy_3 0 rfl rfl)
theorem dX1_copy_72 : decode cX1_copy 72 = .ok (.checkcast 19, 3) := dk_192 0 19 (dk_at dksX1_copy_3 3 rfl rfl)
theorem dX1_copy_75 : decode cX1_copy 75 = .ok (.putfield 35, 3) := dk_181 0 35 (dk_at dksX1_copy_3 6 rfl rfl)
theorem dX1_copy_78 : decode cX1_copy 78 = .ok (.aload_n 0, 1) := dk_42 (dk_at dksX1_copy_3 9 rfl rfl)
theorem dX1_copy_79 : decode cX1_copy 79 = .ok (.getfield 41, 3) := dk_180 0 41 (dk_at dksX1_copy_3 10 rfl rfl)
theorem dX1_copy_82 : decode cX1_copy 82 = .ok (.invokeinterface 49 1, 5) := by decide +kernel
theorem dX1_copy_87 : decode cX1_copy 87 = .ok (.astore_n 2, 1) := dk_77 (dk_at dksX1_copy_3 18 rfl rfl)
theorem dX1_copy_88 : decode cX1_copy 88 = .ok (.aload_n 2, 1) := dk_44 (dk_at dksX1_copy_3 19 rfl rfl)
theorem dX1_copy_89 : decode cX1_copy 89 = .ok (.invokeinterface 55 1, 5) := by decide +kernel
theorem dX1_copy_94 : decode cX1_copy 94 = .ok (.ifCond .eq 34, 3) := dk_153 0 34 (dk_at dksX1_copy_4 5 rfl rfl)
theorem dX1_copy_97 : decode cX1_copy 97 = .ok (.aload_n 2, 1) := dk_44 (dk_at dksX1_copy_4 8 rfl rfl)
theorem dX1_copy_98 : decode cX1_copy 98 = .ok (.invokeinterface 61 1, 5) := by decide +kernel
theorem dX1_copy_103 : decode cX1_copy 103 = .ok (.checkcast 64, 3) := dk_192 0 64 (dk_at dksX1_copy_4 14 rfl rfl)
theorem dX1_copy_106 : decode cX1_copy 106 = .ok (.astore_n 3, 1) := dk_78 (dk_at dksX1_copy_4 17 rfl rfl)
theorem dX1_copy_107 : decode cX1_copy 107 = .ok (.aload_n 1, 1) := dk_43 (dk_at dksX1_copy_4 18 rfl rfl)
theorem dX1_copy_108 : decode cX1_copy 108 = .ok (.getfield 41, 3) := dk_180 0 41 (dk_at dksX1_copy_4 19 rfl rfl)
theorem dX1_copy_111 : decode cX1_copy 111 = .ok (.new 64, 3) := dk_187 0 64 (dk_at dksX1_copy_5 0 rfl rfl)
theorem dX1_copy_114 : decode cX1_copy 114 = .ok (.dup, 1) := dk_89 (dk_at dksX1_copy_5 3 rfl rfl)
theorem dX1_copy_115 : decode cX1_copy 115 = .ok (.aload_n 3, 1) := dk_45 (dk_at dksX1_copy_5 4 rfl rfl)
theorem dX1_copy_116 : decode cX1_copy 116 = .ok (.invokespecial 66, 3) := dk_183 0 66 (dk_at dksX1_copy_5 5 rfl rfl)
theorem dX1_copy_119 : decode cX1_copy 119 = .ok (.invokeinterface 69 2, 5) := by decide +kernel
theorem dX1_copy_124 : decode cX1_copy 124 = .ok (.pop, 1) := dk_87 (dk_at dksX1_copy_5 13 rfl rfl)
theorem dX1_copy_125 : decode cX1_copy 125 = .ok (.goto (-37), 3) := dk_167 255 219 (dk_at dksX1_copy_5 14 rfl rfl)
theorem dX1_copy_128 : decode cX1_copy 128 = .ok (.aload_n 0, 1) := dk_42 (dk_at dksX1_copy_5 17 rfl rfl)
theorem dX1_copy_129 : decode cX1_copy 129 = .ok (.getfield 45, 3) := dk_180 0 45 (dk_at dksX1_copy_5 18 rfl rfl)
theorem dX1_copy_132 : decode cX1_copy 132 = .ok (.invokeinterface 49 1, 5) := by decide +kernel
theorem dX1_copy_137 : decode cX1_copy 137 = .ok (.astore_n 2, 1) := dk_77 (dk_at dksX1_copy_6 5 rfl rfl)
theorem dX1_copy_138 : decode cX1_copy 138 = .ok (.aload_n 2, 1) := dk_44 (dk_at dksX1_copy_6 6 rfl rfl)
theorem dX1_copy_139 : decode cX1_copy 139 = .ok (.invokeinterface 55 1, 5) := by decide +kernel
theorem dX1_copy_144 : decode cX1_copy 144 = .ok (.ifCond .eq 34, 3) := dk_153 0 34 (dk_at dksX1_copy_6 12 rfl rfl)
theorem dX1_copy_147 : decode cX1_copy 147 = .ok (.aload_n 2, 1) := dk_44 (dk_at dksX1_copy_6 15 rfl rfl)
theorem dX1_copy_148 : decode cX1_copy 148 = .ok (.invokeinterface 61 1, 5) := by decide +kernel
theorem dX1_copy_153 : decode cX1_copy 153 = .ok (.checkcast 73, 3) := dk_192 0 73 (dk_at dksX1_copy_6 21 rfl rfl)
theorem dX1_copy_156 : decode cX1_copy 156 = .ok (.astore_n 3, 1) := dk_78 (dk_at dksX1_copy_7 0 rfl rfl)
theorem dX1_copy_157 : decode cX1_copy 157 = .ok (.aload_n 1, 1) := dk_43 (dk_at dksX1_copy_7 1 rfl rfl)
theorem dX1_copy_158 : decode cX1_copy 158 = .ok (.getfield 45, 3) := dk_180 0 45 (dk_at dksX1_copy_7 2 rfl rfl)
theorem dX1_copy_161 : decode cX1_copy 161 = .ok (.new 73, 3) := dk_187 0 73 (dk_at dksX1_copy_7 5 rfl rfl)
theorem dX1_copy_164 : decode cX1_copy 164 = .ok (.dup, 1) := dk_89 (dk_at dksX1_copy_7 8 rfl rfl)
theorem dX1_copy_165 : decode cX1_copy 165 = .ok (.aload_n 3, 1) := dk_45 (dk_at dksX1_copy_7 9 rfl rfl)
theorem dX1_copy_166 : decode cX1_copy 166 = .ok (.invokespecial 75, 3) := dk_183 0 75 (dk_at dksX1_copy_7 10 rfl rfl)
theorem dX1_copy_169 : decode cX1_copy 169 = .ok (.invokeinterface 69 2, 5) := by decide +kernel
theorem dX1_copy_174 : decode cX1_copy 174 = .ok (.pop, 1) := dk_87 (dk_at dksX1_copy_7 18 rfl rfl)
theorem dX1_copy_175 : decode cX1_copy 175 = .ok (.goto (-37), 3) := dk_167 255 219 (dk_at dksX1_copy_7 19 rfl rfl)
theorem dX1_copy_178 : decode cX1_copy 178 = .ok (.aload_n 1, 1) := dk_43 (dk_at dksX1_copy_7 22 rfl rfl)
theorem dX1_copy_179 : decode cX1_copy 179 = .ok (.aload_n 0, 1) := dk_42 (dk_at dksX1_copy_7 23 rfl rfl)
theorem dX1_copy_180 : decode cX1_copy 180 = .ok (.getfield 78, 3) := dk_180 0 78 (dk_at dksX1_copy_8 0 rfl rfl)
theorem dX1_copy_183 : decode cX1_copy 183 = .ok (.putfield 78, 3) := dk_181 0 78 (dk_at dksX1_copy_8 3 rfl rfl)
theorem dX1_copy_186 : decode cX1_copy 186 = .ok (.aload_n 1, 1) := dk_43 (dk_at dksX1_copy_8 6 rfl rfl)
theorem dX1_copy_187 : decode cX1_copy 187 = .ok (.aload_n 0, 1) := dk_42 (dk_at dksX1_copy_8 7 rfl rfl)
theorem dX1_copy_188 : decode cX1_copy 188 = .ok (.getfield 82, 3) := dk_180 0 82 (dk_at dksX1_copy_8 8 rfl rfl)
theorem dX1_copy_191 : decode cX1_copy 191 = .ok (.putfield 82, 3) := dk_181 0 82 (dk_at dksX1_copy_8 11 rfl rfl)
theorem dX1_copy_194 : decode cX1_copy 194 = .ok (.aload_n 1, 1) := dk_43 (dk_at dksX1_copy_8 14 rfl rfl)
theorem dX1_copy_195 : decode cX1_copy 195 = .ok (.aload_n 0, 1) := dk_42 (dk_at dksX1_copy_8 15 rfl rfl)
theorem dX1_copy_196 : decode cX1_copy 196 = .ok (.getfield 86, 3) := dk_180 0 86 (dk_at dksX1_copy_8 16 rfl rfl)
theorem dX1_copy_199 : decode cX1_copy 199 = .ok (.putfield 86, 3) := dk_181 0 86 (dk_at dksX1_copy_8 19 rfl rfl)
theorem dX1_copy_202 : decode cX1_copy 202 = .ok (.aload_n 1, 1) := dk_43 (dk_at dksX1_copy_8 22 rfl rfl)
theorem dX1_copy_203 : decode cX1_copy 203 = .ok (.aload_n 0, 1) := dk_42 (dk_at dksX1_copy_8 23 rfl rfl)
theorem dX1_copy_204 : decode cX1_copy 204 = .ok (.getfield 89, 3) := dk_180 0 89 (dk_at dksX1_copy_9 0 rfl rfl)
theorem dX1_copy_207 : decode cX1_copy 207 = .ok (.putfield 89, 3) := dk_181 0 89 (dk_at dksX1_copy_9 3 rfl rfl)
theorem dX1_copy_210 : decode cX1_copy 210 = .ok (.aload_n 1, 1) := dk_43 (dk_at dksX1_copy_9 6 rfl rfl)
theorem dX1_copy_211 : decode cX1_copy 211 = .ok (.aload_n 0, 1) := dk_42 (dk_at dksX1_copy_9 7 rfl rfl)
theorem dX1_copy_212 : decode cX1_copy 212 = .ok (.getfield 92, 3) := dk_180 0 92 (dk_at dksX1_copy_9 8 rfl rfl)
theorem dX1_copy_215 : decode cX1_copy 215 = .ok (.putfield 92, 3) := dk_181 0 92 (dk_at dksX1_copy_9 11 rfl rfl)
theorem dX1_copy_218 : decode cX1_copy 218 = .ok (.aload_n 1, 1) := dk_43 (dk_at dksX1_copy_9 14 rfl rfl)
theorem dX1_copy_219 : decode cX1_copy 219 = .ok (.aload_n 0, 1) := dk_42 (dk_at dksX1_copy_9 15 rfl rfl)
theorem dX1_copy_220 : decode cX1_copy 220 = .ok (.getfield 95, 3) := dk_180 0 95 (dk_at dksX1_copy_9 16 rfl rfl)
theorem dX1_copy_223 : decode cX1_copy 223 = .ok (.putfield 95, 3) := dk_181 0 95 (dk_at dksX1_copy_9 19 rfl rfl)
theorem dX1_copy_226 : decode cX1_copy 226 = .ok (.aload_n 1, 1) := dk_43 (dk_at dksX1_copy_9 22 rfl rfl)
theorem dX1_copy_227 : decode cX1_copy 227 = .ok (.areturn, 1) := dk_176 (dk_at dksX1_copy_9 23 rfl rfl)
abbrev cX1_quarry : ByteArray := prog_4_method_6_code
def yX1_quarry : MethodName := ⟨RX1, "quarry", "(LQuarryOrders$Sizes;I)I"⟩
def dkwX1_quarry_1 : List UInt8 := [185, 0, 69, 2, 0, 87, 42, 89, 180, 0, 86, 45, 182, 0, 120, 96, 181, 0, 86, 45, 180, 0, 101, 172]
abbrev dktX1_quarry_1 : List UInt8 := dkwX1_quarry_1 ++ []
def dkwX1_quarry_0 : List UInt8 := [187, 0, 64, 89, 42, 180, 0, 41, 185, 0, 113, 1, 0, 43, 28, 183, 0, 117, 78, 42, 180, 0, 41, 45]
abbrev dktX1_quarry_0 : List UInt8 := dkwX1_quarry_0 ++ dktX1_quarry_1
theorem dksX1_quarry_0 : cX1_quarry.data.toList.drop 0 = dktX1_quarry_0 := by decide +kernel
theorem dksX1_quarry_1 : cX1_quarry.data.toList.drop 24 = dktX1_quarry_1 := dk_seg dksX1_quarry_0 24 rfl rfl
theorem dX1_quarry_0 : decode cX1_quarry 0 = .ok (.new 64, 3) := dk_187 0 64 (dk_at dksX1_quarry_0 0 rfl rfl)
theorem dX1_quarry_3 : decode cX1_quarry 3 = .ok (.dup, 1) := dk_89 (dk_at dksX1_quarry_0 3 rfl rfl)
theorem dX1_quarry_4 : decode cX1_quarry 4 = .ok (.aload_n 0, 1) := dk_42 (dk_at dksX1_quarry_0 4 rfl rfl)
theorem dX1_quarry_5 : decode cX1_quarry 5 = .ok (.getfield 41, 3) := dk_180 0 41 (dk_at dksX1_quarry_0 5 rfl rfl)
theorem dX1_quarry_8 : decode cX1_quarry 8 = .ok (.invokeinterface 113 1, 5) := by decide +kernel
theorem dX1_quarry_13 : decode cX1_quarry 13 = .ok (.aload_n 1, 1) := dk_43 (dk_at dksX1_quarry_0 13 rfl rfl)
theorem dX1_quarry_14 : decode cX1_quarry 14 = .ok (.iload_n 2, 1) := dk_28 (dk_at dksX1_quarry_0 14 rfl rfl)
theorem dX1_quarry_15 : decode cX1_quarry 15 = .ok (.invokespecial 117, 3) := dk_183 0 117 (dk_at dksX1_quarry_0 15 rfl rfl)
theorem dX1_quarry_18 : decode cX1_quarry 18 = .ok (.astore_n 3, 1) := dk_78 (dk_at dksX1_quarry_0 18 rfl rfl)
theorem dX1_quarry_19 : decode cX1_quarry 19 = .ok (.aload_n 0, 1) := dk_42 (dk_at dksX1_quarry_0 19 rfl rfl)
theorem dX1_quarry_20 : decode cX1_quarry 20 = .ok (.getfield 41, 3) := dk_180 0 41 (dk_at dksX1_quarry_0 20 rfl rfl)
theorem dX1_quarry_23 : decode cX1_quarry 23 = .ok (.aload_n 3, 1) := dk_45 (dk_at dksX1_quarry_0 23 rfl rfl)
theorem dX1_quarry_24 : decode cX1_quarry 24 = .ok (.invokeinterface 69 2, 5) := by decide +kernel
theorem dX1_quarry_29 : decode cX1_quarry 29 = .ok (.pop, 1) := dk_87 (dk_at dksX1_quarry_1 5 rfl rfl)
theorem dX1_quarry_30 : decode cX1_quarry 30 = .ok (.aload_n 0, 1) := dk_42 (dk_at dksX1_quarry_1 6 rfl rfl)
theorem dX1_quarry_31 : decode cX1_quarry 31 = .ok (.dup, 1) := dk_89 (dk_at dksX1_quarry_1 7 rfl rfl)
theorem dX1_quarry_32 : decode cX1_quarry 32 = .ok (.getfield 86, 3) := dk_180 0 86 (dk_at dksX1_quarry_1 8 rfl rfl)
theorem dX1_quarry_35 : decode cX1_quarry 35 = .ok (.aload_n 3, 1) := dk_45 (dk_at dksX1_quarry_1 11 rfl rfl)
theorem dX1_quarry_36 : decode cX1_quarry 36 = .ok (.invokevirtual 120, 3) := dk_182 0 120 (dk_at dksX1_quarry_1 12 rfl rfl)
theorem dX1_quarry_39 : decode cX1_quarry 39 = .ok (.iadd, 1) := dk_96 (dk_at dksX1_quarry_1 15 rfl rfl)
theorem dX1_quarry_40 : decode cX1_quarry 40 = .ok (.putfield 86, 3) := dk_181 0 86 (dk_at dksX1_quarry_1 16 rfl rfl)
theorem dX1_quarry_43 : decode cX1_quarry 43 = .ok (.aload_n 3, 1) := dk_45 (dk_at dksX1_quarry_1 19 rfl rfl)
theorem dX1_quarry_44 : decode cX1_quarry 44 = .ok (.getfield 101, 3) := dk_180 0 101 (dk_at dksX1_quarry_1 20 rfl rfl)
theorem dX1_quarry_47 : decode cX1_quarry 47 = .ok (.ireturn, 1) := dk_172 (dk_at dksX1_quarry_1 23 rfl rfl)
abbrev cX1_leavesRest : ByteArray := prog_4_method_9_code
def yX1_leavesRest : MethodName := ⟨RX1, "leavesRest", "(LQuarryOrders$Block;II)Z"⟩
def dkwX1_leavesRest_1 : List UInt8 := [167, 0, 4, 3, 172]
abbrev dktX1_leavesRest_1 : List UInt8 := dkwX1_leavesRest_1 ++ []
def dkwX1_leavesRest_0 : List UInt8 := [43, 180, 0, 123, 28, 182, 0, 148, 29, 100, 42, 180, 0, 23, 3, 46, 100, 4, 161, 0, 7, 4]
abbrev dktX1_leavesRest_0 : List UInt8 := dkwX1_leavesRest_0 ++ dktX1_leavesRest_1
theorem dksX1_leavesRest_0 : cX1_leavesRest.data.toList.drop 0 = dktX1_leavesRest_0 := by decide +kernel
theorem dksX1_leavesRest_1 : cX1_leavesRest.data.toList.drop 22 = dktX1_leavesRest_1 := dk_seg dksX1_leavesRest_0 22 rfl rfl
theorem dX1_leavesRest_0 : decode cX1_leavesRest 0 = .ok (.aload_n 1, 1) := dk_43 (dk_at dksX1_leavesRest_0 0 rfl rfl)
theorem dX1_leavesRest_1 : decode cX1_leavesRest 1 = .ok (.getfield 123, 3) := dk_180 0 123 (dk_at dksX1_leavesRest_0 1 rfl rfl)
theorem dX1_leavesRest_4 : decode cX1_leavesRest 4 = .ok (.iload_n 2, 1) := dk_28 (dk_at dksX1_leavesRest_0 4 rfl rfl)
theorem dX1_leavesRest_5 : decode cX1_leavesRest 5 = .ok (.invokevirtual 148, 3) := dk_182 0 148 (dk_at dksX1_leavesRest_0 5 rfl rfl)
theorem dX1_leavesRest_8 : decode cX1_leavesRest 8 = .ok (.iload_n 3, 1) := dk_29 (dk_at dksX1_leavesRest_0 8 rfl rfl)
theorem dX1_leavesRest_9 : decode cX1_leavesRest 9 = .ok (.isub, 1) := dk_100 (dk_at dksX1_leavesRest_0 9 rfl rfl)
theorem dX1_leavesRest_10 : decode cX1_leavesRest 10 = .ok (.aload_n 0, 1) := dk_42 (dk_at dksX1_leavesRest_0 10 rfl rfl)
theorem dX1_leavesRest_11 : decode cX1_leavesRest 11 = .ok (.getfield 23, 3) := dk_180 0 23 (dk_at dksX1_leavesRest_0 11 rfl rfl)
theorem dX1_leavesRest_14 : decode cX1_leavesRest 14 = .ok (.iconst 0, 1) := dk_3 (dk_at dksX1_leavesRest_0 14 rfl rfl)
theorem dX1_leavesRest_15 : decode cX1_leavesRest 15 = .ok (.iaload, 1) := dk_46 (dk_at dksX1_leavesRest_0 15 rfl rfl)
theorem dX1_leavesRest_16 : decode cX1_leavesRest 16 = .ok (.isub, 1) := dk_100 (dk_at dksX1_leavesRest_0 16 rfl rfl)
theorem dX1_leavesRest_17 : decode cX1_leavesRest 17 = .ok (.iconst 1, 1) := dk_4 (dk_at dksX1_leavesRest_0 17 rfl rfl)
theorem dX1_leavesRest_18 : decode cX1_leavesRest 18 = .ok (.if_icmp .lt 7, 3) := dk_161 0 7 (dk_at dksX1_leavesRest_0 18 rfl rfl)
theorem dX1_leavesRest_21 : decode cX1_leavesRest 21 = .ok (.iconst 1, 1) := dk_4 (dk_at dksX1_leavesRest_0 21 rfl rfl)
theorem dX1_leavesRest_22 : decode cX1_leavesRest 22 = .ok (.goto 4, 3) := dk_167 0 4 (dk_at dksX1_leavesRest_1 0 rfl rfl)
theorem dX1_leavesRest_25 : decode cX1_leavesRest 25 = .ok (.iconst 0, 1) := dk_3 (dk_at dksX1_leavesRest_1 3 rfl rfl)
theorem dX1_leavesRest_26 : decode cX1_leavesRest 26 = .ok (.ireturn, 1) := dk_172 (dk_at dksX1_leavesRest_1 4 rfl rfl)
abbrev cX1_cut : ByteArray := prog_4_method_8_code
def yX1_cut : MethodName := ⟨RX1, "cut", "(LQuarryOrders$Block;II)I"⟩
def dkwX1_cut_3 : List UInt8 := [42, 25, 7, 28, 29, 182, 0, 151, 42, 25, 7, 28, 21, 4, 182, 0, 151, 21, 6, 172]
abbrev dktX1_cut_3 : List UInt8 := dkwX1_cut_3 ++ []
def dkwX1_cut_2 : List UInt8 := [185, 0, 113, 1, 0, 54, 6, 187, 0, 64, 89, 43, 183, 0, 66, 58, 7, 25, 7, 21, 5, 181, 0, 98]
abbrev dktX1_cut_2 : List UInt8 := dkwX1_cut_2 ++ dktX1_cut_3
def dkwX1_cut_1 : List UInt8 := [54, 5, 43, 7, 181, 0, 98, 42, 89, 180, 0, 89, 43, 182, 0, 120, 96, 181, 0, 89, 42, 180, 0, 41]
abbrev dktX1_cut_1 : List UInt8 := dkwX1_cut_1 ++ dktX1_cut_2
def dkwX1_cut_0 : List UInt8 := [43, 180, 0, 123, 28, 182, 0, 148, 29, 100, 42, 180, 0, 23, 3, 46, 100, 54, 4, 43, 180, 0, 98]
abbrev dktX1_cut_0 : List UInt8 := dkwX1_cut_0 ++ dktX1_cut_1
theorem dksX1_cut_0 : cX1_cut.data.toList.drop 0 = dktX1_cut_0 := by decide +kernel
theorem dksX1_cut_1 : cX1_cut.data.toList.drop 23 = dktX1_cut_1 := dk_seg dksX1_cut_0 23 rfl rfl
theorem dksX1_cut_2 : cX1_cut.data.toList.drop 47 = dktX1_cut_2 := dk_seg dksX1_cut_1 24 rfl rfl
theorem dksX1_cut_3 : cX1_cut.data.toList.drop 71 = dktX1_cut_3 := dk_seg dksX1_cut_2 24 rfl rfl
theorem dX1_cut_0 : decode cX1_cut 0 = .ok (.aload_n 1, 1) := dk_43 (dk_at dksX1_cut_0 0 rfl rfl)
theorem dX1_cut_1 : decode cX1_cut 1 = .ok (.getfield 123, 3) := dk_180 0 123 (dk_at dksX1_cut_0 1 rfl rfl)
theorem dX1_cut_4 : decode cX1_cut 4 = .ok (.iload_n 2, 1) := dk_28 (dk_at dksX1_cut_0 4 rfl rfl)
theorem dX1_cut_5 : decode cX1_cut 5 = .ok (.invokevirtual 148, 3) := dk_182 0 148 (dk_at dksX1_cut_0 5 rfl rfl)
theorem dX1_cut_8 : decode cX1_cut 8 = .ok (.iload_n 3, 1) := dk_29 (dk_at dksX1_cut_0 8 rfl rfl)
theorem dX1_cut_9 : decode cX1_cut 9 = .ok (.isub, 1) := dk_100 (dk_at dksX1_cut_0 9 rfl rfl)
theorem dX1_cut_10 : decode cX1_cut 10 = .ok (.aload_n 0, 1) := dk_42 (dk_at dksX1_cut_0 10 rfl rfl)
theorem dX1_cut_11 : decode cX1_cut 11 = .ok (.getfield 23, 3) := dk_180 0 23 (dk_at dksX1_cut_0 11 rfl rfl)
theorem dX1_cut_14 : decode cX1_cut 14 = .ok (.iconst 0, 1) := dk_3 (dk_at dksX1_cut_0 14 rfl rfl)
theorem dX1_cut_15 : decode cX1_cut 15 = .ok (.iaload, 1) := dk_46 (dk_at dksX1_cut_0 15 rfl rfl)
theorem dX1_cut_16 : decode cX1_cut 16 = .ok (.isub, 1) := dk_100 (dk_at dksX1_cut_0 16 rfl rfl)
theorem dX1_cut_17 : decode cX1_cut 17 = .ok (.istore 4, 2) := dk_54 4 (dk_at dksX1_cut_0 17 rfl rfl)
theorem dX1_cut_19 : decode cX1_cut 19 = .ok (.aload_n 1, 1) := dk_43 (dk_at dksX1_cut_0 19 rfl rfl)
theorem dX1_cut_20 : decode cX1_cut 20 = .ok (.getfield 98, 3) := dk_180 0 98 (dk_at dksX1_cut_0 20 rfl rfl)
theorem dX1_cut_23 : decode cX1_cut 23 = .ok (.istore 5, 2) := dk_54 5 (dk_at dksX1_cut_1 0 rfl rfl)
theorem dX1_cut_25 : decode cX1_cut 25 = .ok (.aload_n 1, 1) := dk_43 (dk_at dksX1_cut_1 2 rfl rfl)
theorem dX1_cut_26 : decode cX1_cut 26 = .ok (.iconst 4, 1) := dk_7 (dk_at dksX1_cut_1 3 rfl rfl)
theorem dX1_cut_27 : decode cX1_cut 27 = .ok (.putfield 98, 3) := dk_181 0 98 (dk_at dksX1_cut_1 4 rfl rfl)
theorem dX1_cut_30 : decode cX1_cut 30 = .ok (.aload_n 0, 1) := dk_42 (dk_at dksX1_cut_1 7 rfl rfl)
theorem dX1_cut_31 : decode cX1_cut 31 = .ok (.dup, 1) := dk_89 (dk_at dksX1_cut_1 8 rfl rfl)
theorem dX1_cut_32 : decode cX1_cut 32 = .ok (.getfield 89, 3) := dk_180 0 89 (dk_at dksX1_cut_1 9 rfl rfl)
theorem dX1_cut_35 : decode cX1_cut 35 = .ok (.aload_n 1, 1) := dk_43 (dk_at dksX1_cut_1 12 rfl rfl)
theorem dX1_cut_36 : decode cX1_cut 36 = .ok (.invokevirtual 120, 3) := dk_182 0 120 (dk_at dksX1_cut_1 13 rfl rfl)
theorem dX1_cut_39 : decode cX1_cut 39 = .ok (.iadd, 1) := dk_96 (dk_at dksX1_cut_1 16 rfl rfl)
theorem dX1_cut_40 : decode cX1_cut 40 = .ok (.putfield 89, 3) := dk_181 0 89 (dk_at dksX1_cut_1 17 rfl rfl)
theorem dX1_cut_43 : decode cX1_cut 43 = .ok (.aload_n 0, 1) := dk_42 (dk_at dksX1_cut_1 20 rfl rfl)
theorem dX1_cut_44 : decode cX1_cut 44 = .ok (.getfield 41, 3) := dk_180 0 41 (dk_at dksX1_cut_1 21 rfl rfl)
theorem dX1_cut_47 : decode cX1_cut 47 = .ok (.invokeinterface 113 1, 5) := by decide +kernel
theorem dX1_cut_52 : decode cX1_cut 52 = .ok (.istore 6, 2) := dk_54 6 (dk_at dksX1_cut_2 5 rfl rfl)
theorem dX1_cut_54 : decode cX1_cut 54 = .ok (.new 64, 3) := dk_187 0 64 (dk_at dksX1_cut_2 7 rfl rfl)
theorem dX1_cut_57 : decode cX1_cut 57 = .ok (.dup, 1) := dk_89 (dk_at dksX1_cut_2 10 rfl rfl)
theorem dX1_cut_58 : decode cX1_cut 58 = .ok (.aload_n 1, 1) := dk_43 (dk_at dksX1_cut_2 11 rfl rfl)
theorem dX1_cut_59 : decode cX1_cut 59 = .ok (.invokespecial 66, 3) := dk_183 0 66 (dk_at dksX1_cut_2 12 rfl rfl)
theorem dX1_cut_62 : decode cX1_cut 62 = .ok (.astore 7, 2) := dk_58 7 (dk_at dksX1_cut_2 15 rfl rfl)
theorem dX1_cut_64 : decode cX1_cut 64 = .ok (.aload 7, 2) := dk_25 7 (dk_at dksX1_cut_2 17 rfl rfl)
theorem dX1_cut_66 : decode cX1_cut 66 = .ok (.iload 5, 2) := dk_21 5 (dk_at dksX1_cut_2 19 rfl rfl)
theorem dX1_cut_68 : decode cX1_cut 68 = .ok (.putfield 98, 3) := dk_181 0 98 (dk_at dksX1_cut_2 21 rfl rfl)
theorem dX1_cut_71 : decode cX1_cut 71 = .ok (.aload_n 0, 1) := dk_42 (dk_at dksX1_cut_3 0 rfl rfl)
theorem dX1_cut_72 : decode cX1_cut 72 = .ok (.aload 7, 2) := dk_25 7 (dk_at dksX1_cut_3 1 rfl rfl)
theorem dX1_cut_74 : decode cX1_cut 74 = .ok (.iload_n 2, 1) := dk_28 (dk_at dksX1_cut_3 3 rfl rfl)
theorem dX1_cut_75 : decode cX1_cut 75 = .ok (.iload_n 3, 1) := dk_29 (dk_at dksX1_cut_3 4 rfl rfl)
theorem dX1_cut_76 : decode cX1_cut 76 = .ok (.invokevirtual 151, 3) := dk_182 0 151 (dk_at dksX1_cut_3 5 rfl rfl)
theorem dX1_cut_79 : decode cX1_cut 79 = .ok (.aload_n 0, 1) := dk_42 (dk_at dksX1_cut_3 8 rfl rfl)
theorem dX1_cut_80 : decode cX1_cut 80 = .ok (.aload 7, 2) := dk_25 7 (dk_at dksX1_cut_3 9 rfl rfl)
theorem dX1_cut_82 : decode cX1_cut 82 = .ok (.iload_n 2, 1) := dk_28 (dk_at dksX1_cut_3 11 rfl rfl)
theorem dX1_cut_83 : decode cX1_cut 83 = .ok (.iload 4, 2) := dk_21 4 (dk_at dksX1_cut_3 12 rfl rfl)
theorem dX1_cut_85 : decode cX1_cut 85 = .ok (.invokevirtual 151, 3) := dk_182 0 151 (dk_at dksX1_cut_3 14 rfl rfl)
theorem dX1_cut_88 : decode cX1_cut 88 = .ok (.iload 6, 2) := dk_21 6 (dk_at dksX1_cut_3 17 rfl rfl)
theorem dX1_cut_90 : decode cX1_cut 90 = .ok (.ireturn, 1) := dk_172 (dk_at dksX1_cut_3 19 rfl rfl)
abbrev cX1_make : ByteArray := prog_4_method_7_code
def yX1_make : MethodName := ⟨RX1, "make", "(LQuarryOrders$Block;II)V"⟩
def dkwX1_make_4 : List UInt8 := [25, 4, 182, 0, 120, 100, 181, 0, 89, 177]
abbrev dktX1_make_4 : List UInt8 := dkwX1_make_4 ++ []
def dkwX1_make_3 : List UInt8 := [180, 0, 145, 181, 0, 145, 42, 180, 0, 41, 25, 4, 185, 0, 69, 2, 0, 87, 42, 89, 180, 0, 89]
abbrev dktX1_make_3 : List UInt8 := dkwX1_make_3 ++ dktX1_make_4
def dkwX1_make_2 : List UInt8 := [160, 0, 15, 42, 182, 0, 142, 7, 162, 0, 7, 4, 167, 0, 4, 3, 181, 0, 98, 25, 4, 43]
abbrev dktX1_make_2 : List UInt8 := dkwX1_make_2 ++ dktX1_make_3
def dkwX1_make_1 : List UInt8 := [180, 0, 133, 43, 180, 0, 101, 43, 180, 0, 136, 183, 0, 139, 58, 4, 25, 4, 43, 180, 0, 98, 4]
abbrev dktX1_make_1 : List UInt8 := dkwX1_make_1 ++ dktX1_make_2
def dkwX1_make_0 : List UInt8 := [187, 0, 64, 89, 42, 180, 0, 41, 185, 0, 113, 1, 0, 43, 180, 0, 123, 28, 29, 182, 0, 127, 43]
abbrev dktX1_make_0 : List UInt8 := dkwX1_make_0 ++ dktX1_make_1
theorem dksX1_make_0 : cX1_make.data.toList.drop 0 = dktX1_make_0 := by decide +kernel
theorem dksX1_make_1 : cX1_make.data.toList.drop 23 = dktX1_make_1 := dk_seg dksX1_make_0 23 rfl rfl
theorem dksX1_make_2 : cX1_make.data.toList.drop 46 = dktX1_make_2 := dk_seg dksX1_make_1 23 rfl rfl
theorem dksX1_make_3 : cX1_make.data.toList.drop 68 = dktX1_make_3 := dk_seg dksX1_make_2 22 rfl rfl
theorem dksX1_make_4 : cX1_make.data.toList.drop 91 = dktX1_make_4 := dk_seg dksX1_make_3 23 rfl rfl
theorem dX1_make_0 : decode cX1_make 0 = .ok (.new 64, 3) := dk_187 0 64 (dk_at dksX1_make_0 0 rfl rfl)
theorem dX1_make_3 : decode cX1_make 3 = .ok (.dup, 1) := dk_89 (dk_at dksX1_make_0 3 rfl rfl)
theorem dX1_make_4 : decode cX1_make 4 = .ok (.aload_n 0, 1) := dk_42 (dk_at dksX1_make_0 4 rfl rfl)
theorem dX1_make_5 : decode cX1_make 5 = .ok (.getfield 41, 3) := dk_180 0 41 (dk_at dksX1_make_0 5 rfl rfl)
theorem dX1_make_8 : decode cX1_make 8 = .ok (.invokeinterface 113 1, 5) := by decide +kernel
theorem dX1_make_13 : decode cX1_make 13 = .ok (.aload_n 1, 1) := dk_43 (dk_at dksX1_make_0 13 rfl rfl)
theorem dX1_make_14 : decode cX1_make 14 = .ok (.getfield 123, 3) := dk_180 0 123 (dk_at dksX1_make_0 14 rfl rfl)
theorem dX1_make_17 : decode cX1_make 17 = .ok (.iload_n 2, 1) := dk_28 (dk_at dksX1_make_0 17 rfl rfl)
theorem dX1_make_18 : decode cX1_make 18 = .ok (.iload_n 3, 1) := dk_29 (dk_at dksX1_make_0 18 rfl rfl)
theorem dX1_make_19 : decode cX1_make 19 = .ok (.invokevirtual 127, 3) := dk_182 0 127 (dk_at dksX1_make_0 19 rfl rfl)
theorem dX1_make_22 : decode cX1_make 22 = .ok (.aload_n 1, 1) := dk_43 (dk_at dksX1_make_0 22 rfl rfl)
theorem dX1_make_23 : decode cX1_make 23 = .ok (.getfield 133, 3) := dk_180 0 133 (dk_at dksX1_make_1 0 rfl rfl)
theorem dX1_make_26 : decode cX1_make 26 = .ok (.aload_n 1, 1) := dk_43 (dk_at dksX1_make_1 3 rfl rfl)
theorem dX1_make_27 : decode cX1_make 27 = .ok (.getfield 101, 3) := dk_180 0 101 (dk_at dksX1_make_1 4 rfl rfl)
theorem dX1_make_30 : decode cX1_make 30 = .ok (.aload_n 1, 1) := dk_43 (dk_at dksX1_make_1 7 rfl rfl)
theorem dX1_make_31 : decode cX1_make 31 = .ok (.getfield 136, 3) := dk_180 0 136 (dk_at dksX1_make_1 8 rfl rfl)
theorem dX1_make_34 : decode cX1_make 34 = .ok (.invokespecial 139, 3) := dk_183 0 139 (dk_at dksX1_make_1 11 rfl rfl)
theorem dX1_make_37 : decode cX1_make 37 = .ok (.astore 4, 2) := dk_58 4 (dk_at dksX1_make_1 14 rfl rfl)
theorem dX1_make_39 : decode cX1_make 39 = .ok (.aload 4, 2) := dk_25 4 (dk_at dksX1_make_1 16 rfl rfl)
theorem dX1_make_41 : decode cX1_make 41 = .ok (.aload_n 1, 1) := dk_43 (dk_at dksX1_make_1 18 rfl rfl)
theorem dX1_make_42 : decode cX1_make 42 = .ok (.getfield 98, 3) := dk_180 0 98 (dk_at dksX1_make_1 19 rfl rfl)
theorem dX1_make_45 : decode cX1_make 45 = .ok (.iconst 1, 1) := dk_4 (dk_at dksX1_make_1 22 rfl rfl)
theorem dX1_make_46 : decode cX1_make 46 = .ok (.if_icmp .ne 15, 3) := dk_160 0 15 (dk_at dksX1_make_2 0 rfl rfl)
theorem dX1_make_49 : decode cX1_make 49 = .ok (.aload_n 0, 1) := dk_42 (dk_at dksX1_make_2 3 rfl rfl)
theorem dX1_make_50 : decode cX1_make 50 = .ok (.invokevirtual 142, 3) := dk_182 0 142 (dk_at dksX1_make_2 4 rfl rfl)
theorem dX1_make_53 : decode cX1_make 53 = .ok (.iconst 4, 1) := dk_7 (dk_at dksX1_make_2 7 rfl rfl)
theorem dX1_make_54 : decode cX1_make 54 = .ok (.if_icmp .ge 7, 3) := dk_162 0 7 (dk_at dksX1_make_2 8 rfl rfl)
theorem dX1_make_57 : decode cX1_make 57 = .ok (.iconst 1, 1) := dk_4 (dk_at dksX1_make_2 11 rfl rfl)
theorem dX1_make_58 : decode cX1_make 58 = .ok (.goto 4, 3) := dk_167 0 4 (dk_at dksX1_make_2 12 rfl rfl)
theorem dX1_make_61 : decode cX1_make 61 = .ok (.iconst 0, 1) := dk_3 (dk_at dksX1_make_2 15 rfl rfl)
theorem dX1_make_62 : decode cX1_make 62 = .ok (.putfield 98, 3) := dk_181 0 98 (dk_at dksX1_make_2 16 rfl rfl)
theorem dX1_make_65 : decode cX1_make 65 = .ok (.aload 4, 2) := dk_25 4 (dk_at dksX1_make_2 19 rfl rfl)
theorem dX1_make_67 : decode cX1_make 67 = .ok (.aload_n 1, 1) := dk_43 (dk_at dksX1_make_2 21 rfl rfl)
theorem dX1_make_68 : decode cX1_make 68 = .ok (.getfield 145, 3) := dk_180 0 145 (dk_at dksX1_make_3 0 rfl rfl)
theorem dX1_make_71 : decode cX1_make 71 = .ok (.putfield 145, 3) := dk_181 0 145 (dk_at dksX1_make_3 3 rfl rfl)
theorem dX1_make_74 : decode cX1_make 74 = .ok (.aload_n 0, 1) := dk_42 (dk_at dksX1_make_3 6 rfl rfl)
theorem dX1_make_75 : decode cX1_make 75 = .ok (.getfield 41, 3) := dk_180 0 41 (dk_at dksX1_make_3 7 rfl rfl)
theorem dX1_make_78 : decode cX1_make 78 = .ok (.aload 4, 2) := dk_25 4 (dk_at dksX1_make_3 10 rfl rfl)
theorem dX1_make_80 : decode cX1_make 80 = .ok (.invokeinterface 69 2, 5) := by decide +kernel
theorem dX1_make_85 : decode cX1_make 85 = .ok (.pop, 1) := dk_87 (dk_at dksX1_make_3 17 rfl rfl)
theorem dX1_make_86 : decode cX1_make 86 = .ok (.aload_n 0, 1) := dk_42 (dk_at dksX1_make_3 18 rfl rfl)
theorem dX1_make_87 : decode cX1_make 87 = .ok (.dup, 1) := dk_89 (dk_at dksX1_make_3 19 rfl rfl)
theorem dX1_make_88 : decode cX1_make 88 = .ok (.getfield 89, 3) := dk_180 0 89 (dk_at dksX1_make_3 20 rfl rfl)
theorem dX1_make_91 : decode cX1_make 91 = .ok (.aload 4, 2) := dk_25 4 (dk_at dksX1_make_4 0 rfl rfl)
theorem dX1_make_93 : decode cX1_make 93 = .ok (.invokevirtual 120, 3) := dk_182 0 120 (dk_at dksX1_make_4 2 rfl rfl)
theorem dX1_make_96 : decode cX1_make 96 = .ok (.isub, 1) := dk_100 (dk_at dksX1_make_4 5 rfl rfl)
theorem dX1_make_97 : decode cX1_make 97 = .ok (.putfield 89, 3) := dk_181 0 89 (dk_at dksX1_make_4 6 rfl rfl)
theorem dX1_make_100 : decode cX1_make 100 = .ok (.return_, 1) := dk_177 (dk_at dksX1_make_4 9 rfl rfl)
abbrev cX1_roofed : ByteArray := prog_4_method_5_code
def yX1_roofed : MethodName := ⟨RX1, "roofed", "()I"⟩
def dkwX1_roofed_0 : List UInt8 := [42, 4, 182, 0, 104, 184, 0, 108, 172]
abbrev dktX1_roofed_0 : List UInt8 := dkwX1_roofed_0 ++ []
theorem dksX1_roofed_0 : cX1_roofed.data.toList.drop 0 = dktX1_roofed_0 := by decide +kernel
theorem dX1_roofed_0 : decode cX1_roofed 0 = .ok (.aload_n 0, 1) := dk_42 (dk_at dksX1_roofed_0 0 rfl rfl)
theorem dX1_roofed_1 : decode cX1_roofed 1 = .ok (.iconst 1, 1) := dk_4 (dk_at dksX1_roofed_0 1 rfl rfl)
theorem dX1_roofed_2 : decode cX1_roofed 2 = .ok (.invokevirtual 104, 3) := dk_182 0 104 (dk_at dksX1_roofed_0 2 rfl rfl)
theorem dX1_roofed_5 : decode cX1_roofed 5 = .ok (.invokestatic 108, 3) := dk_184 0 108 (dk_at dksX1_roofed_0 5 rfl rfl)
theorem dX1_roofed_8 : decode cX1_roofed 8 = .ok (.ireturn, 1) := dk_172 (dk_at dksX1_roofed_0 8 rfl rfl)
abbrev cX1_in : ByteArray := prog_4_method_4_code
def yX1_in : MethodName := ⟨RX1, "in", "(I)I"⟩
def dkwX1_in_2 : List UInt8 := [180, 0, 101, 120, 167, 0, 4, 3, 128, 61, 167, 255, 213, 28, 172]
abbrev dktX1_in_2 : List UInt8 := dkwX1_in_2 ++ []
def dkwX1_in_1 : List UInt8 := [185, 0, 61, 1, 0, 192, 0, 64, 58, 4, 28, 25, 4, 180, 0, 98, 27, 160, 0, 13, 4, 25, 4]
abbrev dktX1_in_1 : List UInt8 := dkwX1_in_1 ++ dktX1_in_2
def dkwX1_in_0 : List UInt8 := [3, 61, 42, 180, 0, 41, 185, 0, 49, 1, 0, 78, 45, 185, 0, 55, 1, 0, 153, 0, 40, 45]
abbrev dktX1_in_0 : List UInt8 := dkwX1_in_0 ++ dktX1_in_1
theorem dksX1_in_0 : cX1_in.data.toList.drop 0 = dktX1_in_0 := by decide +kernel
theorem dksX1_in_1 : cX1_in.data.toList.drop 22 = dktX1_in_1 := dk_seg dksX1_in_0 22 rfl rfl
theorem dksX1_in_2 : cX1_in.data.toList.drop 45 = dktX1_in_2 := dk_seg dksX1_in_1 23 rfl rfl
theorem dX1_in_0 : decode cX1_in 0 = .ok (.iconst 0, 1) := dk_3 (dk_at dksX1_in_0 0 rfl rfl)
theorem dX1_in_1 : decode cX1_in 1 = .ok (.istore_n 2, 1) := dk_61 (dk_at dksX1_in_0 1 rfl rfl)
theorem dX1_in_2 : decode cX1_in 2 = .ok (.aload_n 0, 1) := dk_42 (dk_at dksX1_in_0 2 rfl rfl)
theorem dX1_in_3 : decode cX1_in 3 = .ok (.getfield 41, 3) := dk_180 0 41 (dk_at dksX1_in_0 3 rfl rfl)
theorem dX1_in_6 : decode cX1_in 6 = .ok (.invokeinterface 49 1, 5) := by decide +kernel
theorem dX1_in_11 : decode cX1_in 11 = .ok (.astore_n 3, 1) := dk_78 (dk_at dksX1_in_0 11 rfl rfl)
theorem dX1_in_12 : decode cX1_in 12 = .ok (.aload_n 3, 1) := dk_45 (dk_at dksX1_in_0 12 rfl rfl)
theorem dX1_in_13 : decode cX1_in 13 = .ok (.invokeinterface 55 1, 5) := by decide +kernel
theorem dX1_in_18 : decode cX1_in 18 = .ok (.ifCond .eq 40, 3) := dk_153 0 40 (dk_at dksX1_in_0 18 rfl rfl)
theorem dX1_in_21 : decode cX1_in 21 = .ok (.aload_n 3, 1) := dk_45 (dk_at dksX1_in_0 21 rfl rfl)
theorem dX1_in_22 : decode cX1_in 22 = .ok (.invokeinterface 61 1, 5) := by decide +kernel
theorem dX1_in_27 : decode cX1_in 27 = .ok (.checkcast 64, 3) := dk_192 0 64 (dk_at dksX1_in_1 5 rfl rfl)
theorem dX1_in_30 : decode cX1_in 30 = .ok (.astore 4, 2) := dk_58 4 (dk_at dksX1_in_1 8 rfl rfl)
theorem dX1_in_32 : decode cX1_in 32 = .ok (.iload_n 2, 1) := dk_28 (dk_at dksX1_in_1 10 rfl rfl)
theorem dX1_in_33 : decode cX1_in 33 = .ok (.aload 4, 2) := dk_25 4 (dk_at dksX1_in_1 11 rfl rfl)
theorem dX1_in_35 : decode cX1_in 35 = .ok (.getfield 98, 3) := dk_180 0 98 (dk_at dksX1_in_1 13 rfl rfl)
theorem dX1_in_38 : decode cX1_in 38 = .ok (.iload_n 1, 1) := dk_27 (dk_at dksX1_in_1 16 rfl rfl)
theorem dX1_in_39 : decode cX1_in 39 = .ok (.if_icmp .ne 13, 3) := dk_160 0 13 (dk_at dksX1_in_1 17 rfl rfl)
theorem dX1_in_42 : decode cX1_in 42 = .ok (.iconst 1, 1) := dk_4 (dk_at dksX1_in_1 20 rfl rfl)
theorem dX1_in_43 : decode cX1_in 43 = .ok (.aload 4, 2) := dk_25 4 (dk_at dksX1_in_1 21 rfl rfl)
theorem dX1_in_45 : decode cX1_in 45 = .ok (.getfield 101, 3) := dk_180 0 101 (dk_at dksX1_in_2 0 rfl rfl)
theorem dX1_in_48 : decode cX1_in 48 = .ok (.ishl, 1) := dk_120 (dk_at dksX1_in_2 3 rfl rfl)
theorem dX1_in_49 : decode cX1_in 49 = .ok (.goto 4, 3) := dk_167 0 4 (dk_at dksX1_in_2 4 rfl rfl)
theorem dX1_in_52 : decode cX1_in 52 = .ok (.iconst 0, 1) := dk_3 (dk_at dksX1_in_2 7 rfl rfl)
theorem dX1_in_53 : decode cX1_in 53 = .ok (.ior, 1) := dk_128 (dk_at dksX1_in_2 8 rfl rfl)
theorem dX1_in_54 : decode cX1_in 54 = .ok (.istore_n 2, 1) := dk_61 (dk_at dksX1_in_2 9 rfl rfl)
theorem dX1_in_55 : decode cX1_in 55 = .ok (.goto (-43), 3) := dk_167 255 213 (dk_at dksX1_in_2 10 rfl rfl)
theorem dX1_in_58 : decode cX1_in 58 = .ok (.iload_n 2, 1) := dk_28 (dk_at dksX1_in_2 13 rfl rfl)
theorem dX1_in_59 : decode cX1_in 59 = .ok (.ireturn, 1) := dk_172 (dk_at dksX1_in_2 14 rfl rfl)
abbrev cX1_over : ByteArray := prog_4_method_10_code
def yX1_over : MethodName := ⟨RX1, "over", "(LQuarryOrders$Order;LQuarryOrders$Block;)I"⟩
def dkwX1_over_2 : List UInt8 := [182, 0, 162, 167, 0, 5, 16, 250, 172]
abbrev dktX1_over_2 : List UInt8 := dkwX1_over_2 ++ []
def dkwX1_over_1 : List UInt8 := [167, 0, 4, 3, 62, 29, 153, 0, 23, 44, 180, 0, 123, 43, 180, 0, 161, 42, 180, 0, 23, 6, 46]
abbrev dktX1_over_1 : List UInt8 := dkwX1_over_1 ++ dktX1_over_2
def dkwX1_over_0 : List UInt8 := [44, 182, 0, 155, 153, 0, 21, 44, 180, 0, 158, 156, 0, 14, 44, 180, 0, 145, 154, 0, 7, 4]
abbrev dktX1_over_0 : List UInt8 := dkwX1_over_0 ++ dktX1_over_1
theorem dksX1_over_0 : cX1_over.data.toList.drop 0 = dktX1_over_0 := by decide +kernel
theorem dksX1_over_1 : cX1_over.data.toList.drop 22 = dktX1_over_1 := dk_seg dksX1_over_0 22 rfl rfl
theorem dksX1_over_2 : cX1_over.data.toList.drop 45 = dktX1_over_2 := dk_seg dksX1_over_1 23 rfl rfl
theorem dX1_over_0 : decode cX1_over 0 = .ok (.aload_n 2, 1) := dk_44 (dk_at dksX1_over_0 0 rfl rfl)
theorem dX1_over_1 : decode cX1_over 1 = .ok (.invokevirtual 155, 3) := dk_182 0 155 (dk_at dksX1_over_0 1 rfl rfl)
theorem dX1_over_4 : decode cX1_over 4 = .ok (.ifCond .eq 21, 3) := dk_153 0 21 (dk_at dksX1_over_0 4 rfl rfl)
theorem dX1_over_7 : decode cX1_over 7 = .ok (.aload_n 2, 1) := dk_44 (dk_at dksX1_over_0 7 rfl rfl)
theorem dX1_over_8 : decode cX1_over 8 = .ok (.getfield 158, 3) := dk_180 0 158 (dk_at dksX1_over_0 8 rfl rfl)
theorem dX1_over_11 : decode cX1_over 11 = .ok (.ifCond .ge 14, 3) := dk_156 0 14 (dk_at dksX1_over_0 11 rfl rfl)
theorem dX1_over_14 : decode cX1_over 14 = .ok (.aload_n 2, 1) := dk_44 (dk_at dksX1_over_0 14 rfl rfl)
theorem dX1_over_15 : decode cX1_over 15 = .ok (.getfield 145, 3) := dk_180 0 145 (dk_at dksX1_over_0 15 rfl rfl)
theorem dX1_over_18 : decode cX1_over 18 = .ok (.ifCond .ne 7, 3) := dk_154 0 7 (dk_at dksX1_over_0 18 rfl rfl)
theorem dX1_over_21 : decode cX1_over 21 = .ok (.iconst 1, 1) := dk_4 (dk_at dksX1_over_0 21 rfl rfl)
theorem dX1_over_22 : decode cX1_over 22 = .ok (.goto 4, 3) := dk_167 0 4 (dk_at dksX1_over_1 0 rfl rfl)
theorem dX1_over_25 : decode cX1_over 25 = .ok (.iconst 0, 1) := dk_3 (dk_at dksX1_over_1 3 rfl rfl)
theorem dX1_over_26 : decode cX1_over 26 = .ok (.istore_n 3, 1) := dk_62 (dk_at dksX1_over_1 4 rfl rfl)
theorem dX1_over_27 : decode cX1_over 27 = .ok (.iload_n 3, 1) := dk_29 (dk_at dksX1_over_1 5 rfl rfl)
theorem dX1_over_28 : decode cX1_over 28 = .ok (.ifCond .eq 23, 3) := dk_153 0 23 (dk_at dksX1_over_1 6 rfl rfl)
theorem dX1_over_31 : decode cX1_over 31 = .ok (.aload_n 2, 1) := dk_44 (dk_at dksX1_over_1 9 rfl rfl)
theorem dX1_over_32 : decode cX1_over 32 = .ok (.getfield 123, 3) := dk_180 0 123 (dk_at dksX1_over_1 10 rfl rfl)
theorem dX1_over_35 : decode cX1_over 35 = .ok (.aload_n 1, 1) := dk_43 (dk_at dksX1_over_1 13 rfl rfl)
theorem dX1_over_36 : decode cX1_over 36 = .ok (.getfield 161, 3) := dk_180 0 161 (dk_at dksX1_over_1 14 rfl rfl)
theorem dX1_over_39 : decode cX1_over 39 = .ok (.aload_n 0, 1) := dk_42 (dk_at dksX1_over_1 17 rfl rfl)
theorem dX1_over_40 : decode cX1_over 40 = .ok (.getfield 23, 3) := dk_180 0 23 (dk_at dksX1_over_1 18 rfl rfl)
theorem dX1_over_43 : decode cX1_over 43 = .ok (.iconst 3, 1) := dk_6 (dk_at dksX1_over_1 21 rfl rfl)
theorem dX1_over_44 : decode cX1_over 44 = .ok (.iaload, 1) := dk_46 (dk_at dksX1_over_1 22 rfl rfl)
theorem dX1_over_45 : decode cX1_over 45 = .ok (.invokevirtual 162, 3) := dk_182 0 162 (dk_at dksX1_over_2 0 rfl rfl)
theorem dX1_over_48 : decode cX1_over 48 = .ok (.goto 5, 3) := dk_167 0 5 (dk_at dksX1_over_2 3 rfl rfl)
theorem dX1_over_51 : decode cX1_over 51 = .ok (.bipush (-6), 2) := dk_16 250 (dk_at dksX1_over_2 6 rfl rfl)
theorem dX1_over_53 : decode cX1_over 53 = .ok (.ireturn, 1) := dk_172 (dk_at dksX1_over_2 8 rfl rfl)
abbrev cX1_on : ByteArray := prog_4_method_13_code
def yX1_on : MethodName := ⟨RX1, "on", "(II)LQuarryOrders$Block;"⟩
def dkwX1_on_2 : List UInt8 := [8, 112, 28, 160, 0, 6, 25, 4, 176, 167, 255, 213, 1, 176]
abbrev dktX1_on_2 : List UInt8 := dkwX1_on_2 ++ []
def dkwX1_on_1 : List UInt8 := [185, 0, 61, 1, 0, 192, 0, 64, 58, 4, 25, 4, 27, 182, 0, 172, 153, 0, 17, 25, 4, 180, 0, 176]
abbrev dktX1_on_1 : List UInt8 := dkwX1_on_1 ++ dktX1_on_2
def dkwX1_on_0 : List UInt8 := [42, 180, 0, 41, 185, 0, 49, 1, 0, 78, 45, 185, 0, 55, 1, 0, 153, 0, 40, 45]
abbrev dktX1_on_0 : List UInt8 := dkwX1_on_0 ++ dktX1_on_1
theorem dksX1_on_0 : cX1_on.data.toList.drop 0 = dktX1_on_0 := by decide +kernel
theorem dksX1_on_1 : cX1_on.data.toList.drop 20 = dktX1_on_1 := dk_seg dksX1_on_0 20 rfl rfl
theorem dksX1_on_2 : cX1_on.data.toList.drop 44 = dktX1_on_2 := dk_seg dksX1_on_1 24 rfl rfl
theorem dX1_on_0 : decode cX1_on 0 = .ok (.aload_n 0, 1) := dk_42 (dk_at dksX1_on_0 0 rfl rfl)
theorem dX1_on_1 : decode cX1_on 1 = .ok (.getfield 41, 3) := dk_180 0 41 (dk_at dksX1_on_0 1 rfl rfl)
theorem dX1_on_4 : decode cX1_on 4 = .ok (.invokeinterface 49 1, 5) := by decide +kernel
theorem dX1_on_9 : decode cX1_on 9 = .ok (.astore_n 3, 1) := dk_78 (dk_at dksX1_on_0 9 rfl rfl)
theorem dX1_on_10 : decode cX1_on 10 = .ok (.aload_n 3, 1) := dk_45 (dk_at dksX1_on_0 10 rfl rfl)
theorem dX1_on_11 : decode cX1_on 11 = .ok (.invokeinterface 55 1, 5) := by decide +kernel
theorem dX1_on_16 : decode cX1_on 16 = .ok (.ifCond .eq 40, 3) := dk_153 0 40 (dk_at dksX1_on_0 16 rfl rfl)
theorem dX1_on_19 : decode cX1_on 19 = .ok (.aload_n 3, 1) := dk_45 (dk_at dksX1_on_0 19 rfl rfl)
theorem dX1_on_20 : decode cX1_on 20 = .ok (.invokeinterface 61 1, 5) := by decide +kernel
theorem dX1_on_25 : decode cX1_on 25 = .ok (.checkcast 64, 3) := dk_192 0 64 (dk_at dksX1_on_1 5 rfl rfl)
theorem dX1_on_28 : decode cX1_on 28 = .ok (.astore 4, 2) := dk_58 4 (dk_at dksX1_on_1 8 rfl rfl)
theorem dX1_on_30 : decode cX1_on 30 = .ok (.aload 4, 2) := dk_25 4 (dk_at dksX1_on_1 10 rfl rfl)
theorem dX1_on_32 : decode cX1_on 32 = .ok (.iload_n 1, 1) := dk_27 (dk_at dksX1_on_1 12 rfl rfl)
theorem dX1_on_33 : decode cX1_on 33 = .ok (.invokevirtual 172, 3) := dk_182 0 172 (dk_at dksX1_on_1 13 rfl rfl)
theorem dX1_on_36 : decode cX1_on 36 = .ok (.ifCond .eq 17, 3) := dk_153 0 17 (dk_at dksX1_on_1 16 rfl rfl)
theorem dX1_on_39 : decode cX1_on 39 = .ok (.aload 4, 2) := dk_25 4 (dk_at dksX1_on_1 19 rfl rfl)
theorem dX1_on_41 : decode cX1_on 41 = .ok (.getfield 176, 3) := dk_180 0 176 (dk_at dksX1_on_1 21 rfl rfl)
theorem dX1_on_44 : decode cX1_on 44 = .ok (.iconst 5, 1) := dk_8 (dk_at dksX1_on_2 0 rfl rfl)
theorem dX1_on_45 : decode cX1_on 45 = .ok (.irem, 1) := dk_112 (dk_at dksX1_on_2 1 rfl rfl)
theorem dX1_on_46 : decode cX1_on 46 = .ok (.iload_n 2, 1) := dk_28 (dk_at dksX1_on_2 2 rfl rfl)
theorem dX1_on_47 : decode cX1_on 47 = .ok (.if_icmp .ne 6, 3) := dk_160 0 6 (dk_at dksX1_on_2 3 rfl rfl)
theorem dX1_on_50 : decode cX1_on 50 = .ok (.aload 4, 2) := dk_25 4 (dk_at dksX1_on_2 6 rfl rfl)
theorem dX1_on_52 : decode cX1_on 52 = .ok (.areturn, 1) := dk_176 (dk_at dksX1_on_2 8 rfl rfl)
theorem dX1_on_53 : decode cX1_on 53 = .ok (.goto (-43), 3) := dk_167 255 213 (dk_at dksX1_on_2 9 rfl rfl)
theorem dX1_on_56 : decode cX1_on 56 = .ok (.aconst_null, 1) := dk_1 (dk_at dksX1_on_2 12 rfl rfl)
theorem dX1_on_57 : decode cX1_on 57 = .ok (.areturn, 1) := dk_176 (dk_at dksX1_on_2 13 rfl rfl)
abbrev cX1_loadOf : ByteArray := prog_4_method_15_code
def yX1_loadOf : MethodName := ⟨RX1, "loadOf", "(I)I"⟩
def dkwX1_loadOf_2 : List UInt8 := [182, 0, 120, 167, 0, 4, 3, 96, 61, 167, 255, 215, 28, 172]
abbrev dktX1_loadOf_2 : List UInt8 := dkwX1_loadOf_2 ++ []
def dkwX1_loadOf_1 : List UInt8 := [185, 0, 61, 1, 0, 192, 0, 64, 58, 4, 28, 25, 4, 27, 182, 0, 172, 153, 0, 11, 25, 4]
abbrev dktX1_loadOf_1 : List UInt8 := dkwX1_loadOf_1 ++ dktX1_loadOf_2
def dkwX1_loadOf_0 : List UInt8 := [3, 61, 42, 180, 0, 41, 185, 0, 49, 1, 0, 78, 45, 185, 0, 55, 1, 0, 153, 0, 38, 45]
abbrev dktX1_loadOf_0 : List UInt8 := dkwX1_loadOf_0 ++ dktX1_loadOf_1
theorem dksX1_loadOf_0 : cX1_loadOf.data.toList.drop 0 = dktX1_loadOf_0 := by decide +kernel
theorem dksX1_loadOf_1 : cX1_loadOf.data.toList.drop 22 = dktX1_loadOf_1 := dk_seg dksX1_loadOf_0 22 rfl rfl
theorem dksX1_loadOf_2 : cX1_loadOf.data.toList.drop 44 = dktX1_loadOf_2 := dk_seg dksX1_loadOf_1 22 rfl rfl
theorem dX1_loadOf_0 : decode cX1_loadOf 0 = .ok (.iconst 0, 1) := dk_3 (dk_at dksX1_loadOf_0 0 rfl rfl)
theorem dX1_loadOf_1 : decode cX1_loadOf 1 = .ok (.istore_n 2, 1) := dk_61 (dk_at dksX1_loadOf_0 1 rfl rfl)
theorem dX1_loadOf_2 : decode cX1_loadOf 2 = .ok (.aload_n 0, 1) := dk_42 (dk_at dksX1_loadOf_0 2 rfl rfl)
theorem dX1_loadOf_3 : decode cX1_loadOf 3 = .ok (.getfield 41, 3) := dk_180 0 41 (dk_at dksX1_loadOf_0 3 rfl rfl)
theorem dX1_loadOf_6 : decode cX1_loadOf 6 = .ok (.invokeinterface 49 1, 5) := by decide +kernel
theorem dX1_loadOf_11 : decode cX1_loadOf 11 = .ok (.astore_n 3, 1) := dk_78 (dk_at dksX1_loadOf_0 11 rfl rfl)
theorem dX1_loadOf_12 : decode cX1_loadOf 12 = .ok (.aload_n 3, 1) := dk_45 (dk_at dksX1_loadOf_0 12 rfl rfl)
theorem dX1_loadOf_13 : decode cX1_loadOf 13 = .ok (.invokeinterface 55 1, 5) := by decide +kernel
theorem dX1_loadOf_18 : decode cX1_loadOf 18 = .ok (.ifCond .eq 38, 3) := dk_153 0 38 (dk_at dksX1_loadOf_0 18 rfl rfl)
theorem dX1_loadOf_21 : decode cX1_loadOf 21 = .ok (.aload_n 3, 1) := dk_45 (dk_at dksX1_loadOf_0 21 rfl rfl)
theorem dX1_loadOf_22 : decode cX1_loadOf 22 = .ok (.invokeinterface 61 1, 5) := by decide +kernel
theorem dX1_loadOf_27 : decode cX1_loadOf 27 = .ok (.checkcast 64, 3) := dk_192 0 64 (dk_at dksX1_loadOf_1 5 rfl rfl)
theorem dX1_loadOf_30 : decode cX1_loadOf 30 = .ok (.astore 4, 2) := dk_58 4 (dk_at dksX1_loadOf_1 8 rfl rfl)
theorem dX1_loadOf_32 : decode cX1_loadOf 32 = .ok (.iload_n 2, 1) := dk_28 (dk_at dksX1_loadOf_1 10 rfl rfl)
theorem dX1_loadOf_33 : decode cX1_loadOf 33 = .ok (.aload 4, 2) := dk_25 4 (dk_at dksX1_loadOf_1 11 rfl rfl)
theorem dX1_loadOf_35 : decode cX1_loadOf 35 = .ok (.iload_n 1, 1) := dk_27 (dk_at dksX1_loadOf_1 13 rfl rfl)
theorem dX1_loadOf_36 : decode cX1_loadOf 36 = .ok (.invokevirtual 172, 3) := dk_182 0 172 (dk_at dksX1_loadOf_1 14 rfl rfl)
theorem dX1_loadOf_39 : decode cX1_loadOf 39 = .ok (.ifCond .eq 11, 3) := dk_153 0 11 (dk_at dksX1_loadOf_1 17 rfl rfl)
theorem dX1_loadOf_42 : decode cX1_loadOf 42 = .ok (.aload 4, 2) := dk_25 4 (dk_at dksX1_loadOf_1 20 rfl rfl)
theorem dX1_loadOf_44 : decode cX1_loadOf 44 = .ok (.invokevirtual 120, 3) := dk_182 0 120 (dk_at dksX1_loadOf_2 0 rfl rfl)
theorem dX1_loadOf_47 : decode cX1_loadOf 47 = .ok (.goto 4, 3) := dk_167 0 4 (dk_at dksX1_loadOf_2 3 rfl rfl)
theorem dX1_loadOf_50 : decode cX1_loadOf 50 = .ok (.iconst 0, 1) := dk_3 (dk_at dksX1_loadOf_2 6 rfl rfl)
theorem dX1_loadOf_51 : decode cX1_loadOf 51 = .ok (.iadd, 1) := dk_96 (dk_at dksX1_loadOf_2 7 rfl rfl)
theorem dX1_loadOf_52 : decode cX1_loadOf 52 = .ok (.istore_n 2, 1) := dk_61 (dk_at dksX1_loadOf_2 8 rfl rfl)
theorem dX1_loadOf_53 : decode cX1_loadOf 53 = .ok (.goto (-41), 3) := dk_167 255 215 (dk_at dksX1_loadOf_2 9 rfl rfl)
theorem dX1_loadOf_56 : decode cX1_loadOf 56 = .ok (.iload_n 2, 1) := dk_28 (dk_at dksX1_loadOf_2 12 rfl rfl)
theorem dX1_loadOf_57 : decode cX1_loadOf 57 = .ok (.ireturn, 1) := dk_172 (dk_at dksX1_loadOf_2 13 rfl rfl)
abbrev cX1_why : ByteArray := prog_4_method_18_code
def yX1_why : MethodName := ⟨RX1, "why", "(I)I"⟩
def dkwX1_why_3 : List UInt8 := [180, 0, 29, 27, 46, 134, 149, 158, 0, 7, 8, 167, 0, 4, 3, 172]
abbrev dktX1_why_3 : List UInt8 := dkwX1_why_3 ++ []
def dkwX1_why_2 : List UInt8 := [180, 0, 26, 27, 46, 134, 149, 158, 0, 7, 7, 167, 0, 28, 42, 27, 4, 1, 16, 250, 182, 0, 193, 42]
abbrev dktX1_why_2 : List UInt8 := dkwX1_why_2 ++ dktX1_why_3
def dkwX1_why_1 : List UInt8 := [182, 0, 190, 42, 180, 0, 32, 27, 46, 164, 0, 5, 6, 172, 42, 27, 3, 1, 16, 250, 182, 0, 193, 42]
abbrev dktX1_why_1 : List UInt8 := dkwX1_why_1 ++ dktX1_why_2
def dkwX1_why_0 : List UInt8 := [42, 27, 182, 0, 184, 154, 0, 5, 4, 172, 42, 27, 182, 0, 187, 153, 0, 5, 5, 172, 42, 27]
abbrev dktX1_why_0 : List UInt8 := dkwX1_why_0 ++ dktX1_why_1
theorem dksX1_why_0 : cX1_why.data.toList.drop 0 = dktX1_why_0 := by decide +kernel
theorem dksX1_why_1 : cX1_why.data.toList.drop 22 = dktX1_why_1 := dk_seg dksX1_why_0 22 rfl rfl
theorem dksX1_why_2 : cX1_why.data.toList.drop 46 = dktX1_why_2 := dk_seg dksX1_why_1 24 rfl rfl
theorem dksX1_why_3 : cX1_why.data.toList.drop 70 = dktX1_why_3 := dk_seg dksX1_why_2 24 rfl rfl
theorem dX1_why_0 : decode cX1_why 0 = .ok (.aload_n 0, 1) := dk_42 (dk_at dksX1_why_0 0 rfl rfl)
theorem dX1_why_1 : decode cX1_why 1 = .ok (.iload_n 1, 1) := dk_27 (dk_at dksX1_why_0 1 rfl rfl)
theorem dX1_why_2 : decode cX1_why 2 = .ok (.invokevirtual 184, 3) := dk_182 0 184 (dk_at dksX1_why_0 2 rfl rfl)
theorem dX1_why_5 : decode cX1_why 5 = .ok (.ifCond .ne 5, 3) := dk_154 0 5 (dk_at dksX1_why_0 5 rfl rfl)
theorem dX1_why_8 : decode cX1_why 8 = .ok (.iconst 1, 1) := dk_4 (dk_at dksX1_why_0 8 rfl rfl)
theorem dX1_why_9 : decode cX1_why 9 = .ok (.ireturn, 1) := dk_172 (dk_at dksX1_why_0 9 rfl rfl)
theorem dX1_why_10 : decode cX1_why 10 = .ok (.aload_n 0, 1) := dk_42 (dk_at dksX1_why_0 10 rfl rfl)
theorem dX1_why_11 : decode cX1_why 11 = .ok (.iload_n 1, 1) := dk_27 (dk_at dksX1_why_0 11 rfl rfl)
theorem dX1_why_12 : decode cX1_why 12 = .ok (.invokevirtual 187, 3) := dk_182 0 187 (dk_at dksX1_why_0 12 rfl rfl)
theorem dX1_why_15 : decode cX1_why 15 = .ok (.ifCond .eq 5, 3) := dk_153 0 5 (dk_at dksX1_why_0 15 rfl rfl)
theorem dX1_why_18 : decode cX1_why 18 = .ok (.iconst 2, 1) := dk_5 (dk_at dksX1_why_0 18 rfl rfl)
theorem dX1_why_19 : decode cX1_why 19 = .ok (.ireturn, 1) := dk_172 (dk_at dksX1_why_0 19 rfl rfl)
theorem dX1_why_20 : decode cX1_why 20 = .ok (.aload_n 0, 1) := dk_42 (dk_at dksX1_why_0 20 rfl rfl)
theorem dX1_why_21 : decode cX1_why 21 = .ok (.iload_n 1, 1) := dk_27 (dk_at dksX1_why_0 21 rfl rfl)
theorem dX1_why_22 : decode cX1_why 22 = .ok (.invokevirtual 190, 3) := dk_182 0 190 (dk_at dksX1_why_1 0 rfl rfl)
theorem dX1_why_25 : decode cX1_why 25 = .ok (.aload_n 0, 1) := dk_42 (dk_at dksX1_why_1 3 rfl rfl)
theorem dX1_why_26 : decode cX1_why 26 = .ok (.getfield 32, 3) := dk_180 0 32 (dk_at dksX1_why_1 4 rfl rfl)
theorem dX1_why_29 : decode cX1_why 29 = .ok (.iload_n 1, 1) := dk_27 (dk_at dksX1_why_1 7 rfl rfl)
theorem dX1_why_30 : decode cX1_why 30 = .ok (.iaload, 1) := dk_46 (dk_at dksX1_why_1 8 rfl rfl)
theorem dX1_why_31 : decode cX1_why 31 = .ok (.if_icmp .le 5, 3) := dk_164 0 5 (dk_at dksX1_why_1 9 rfl rfl)
theorem dX1_why_34 : decode cX1_why 34 = .ok (.iconst 3, 1) := dk_6 (dk_at dksX1_why_1 12 rfl rfl)
theorem dX1_why_35 : decode cX1_why 35 = .ok (.ireturn, 1) := dk_172 (dk_at dksX1_why_1 13 rfl rfl)
theorem dX1_why_36 : decode cX1_why 36 = .ok (.aload_n 0, 1) := dk_42 (dk_at dksX1_why_1 14 rfl rfl)
theorem dX1_why_37 : decode cX1_why 37 = .ok (.iload_n 1, 1) := dk_27 (dk_at dksX1_why_1 15 rfl rfl)
theorem dX1_why_38 : decode cX1_why 38 = .ok (.iconst 0, 1) := dk_3 (dk_at dksX1_why_1 16 rfl rfl)
theorem dX1_why_39 : decode cX1_why 39 = .ok (.aconst_null, 1) := dk_1 (dk_at dksX1_why_1 17 rfl rfl)
theorem dX1_why_40 : decode cX1_why 40 = .ok (.bipush (-6), 2) := dk_16 250 (dk_at dksX1_why_1 18 rfl rfl)
theorem dX1_why_42 : decode cX1_why 42 = .ok (.invokevirtual 193, 3) := dk_182 0 193 (dk_at dksX1_why_1 20 rfl rfl)
theorem dX1_why_45 : decode cX1_why 45 = .ok (.aload_n 0, 1) := dk_42 (dk_at dksX1_why_1 23 rfl rfl)
theorem dX1_why_46 : decode cX1_why 46 = .ok (.getfield 26, 3) := dk_180 0 26 (dk_at dksX1_why_2 0 rfl rfl)
theorem dX1_why_49 : decode cX1_why 49 = .ok (.iload_n 1, 1) := dk_27 (dk_at dksX1_why_2 3 rfl rfl)
theorem dX1_why_50 : decode cX1_why 50 = .ok (.iaload, 1) := dk_46 (dk_at dksX1_why_2 4 rfl rfl)
theorem dX1_why_51 : decode cX1_why 51 = .ok (.i2f, 1) := dk_134 (dk_at dksX1_why_2 5 rfl rfl)
theorem dX1_why_52 : decode cX1_why 52 = .ok (.fcmp .l, 1) := dk_149 (dk_at dksX1_why_2 6 rfl rfl)
theorem dX1_why_53 : decode cX1_why 53 = .ok (.ifCond .le 7, 3) := dk_158 0 7 (dk_at dksX1_why_2 7 rfl rfl)
theorem dX1_why_56 : decode cX1_why 56 = .ok (.iconst 4, 1) := dk_7 (dk_at dksX1_why_2 10 rfl rfl)
theorem dX1_why_57 : decode cX1_why 57 = .ok (.goto 28, 3) := dk_167 0 28 (dk_at dksX1_why_2 11 rfl rfl)
theorem dX1_why_60 : decode cX1_why 60 = .ok (.aload_n 0, 1) := dk_42 (dk_at dksX1_why_2 14 rfl rfl)
theorem dX1_why_61 : decode cX1_why 61 = .ok (.iload_n 1, 1) := dk_27 (dk_at dksX1_why_2 15 rfl rfl)
theorem dX1_why_62 : decode cX1_why 62 = .ok (.iconst 1, 1) := dk_4 (dk_at dksX1_why_2 16 rfl rfl)
theorem dX1_why_63 : decode cX1_why 63 = .ok (.aconst_null, 1) := dk_1 (dk_at dksX1_why_2 17 rfl rfl)
theorem dX1_why_64 : decode cX1_why 64 = .ok (.bipush (-6), 2) := dk_16 250 (dk_at dksX1_why_2 18 rfl rfl)
theorem dX1_why_66 : decode cX1_why 66 = .ok (.invokevirtual 193, 3) := dk_182 0 193 (dk_at dksX1_why_2 20 rfl rfl)
theorem dX1_why_69 : decode cX1_why 69 = .ok (.aload_n 0, 1) := dk_42 (dk_at dksX1_why_2 23 rfl rfl)
theorem dX1_why_70 : decode cX1_why 70 = .ok (.getfield 29, 3) := dk_180 0 29 (dk_at dksX1_why_3 0 rfl rfl)
theorem dX1_why_73 : decode cX1_why 73 = .ok (.iload_n 1, 1) := dk_27 (dk_at dksX1_why_3 3 rfl rfl)
theorem dX1_why_74 : decode cX1_why 74 = .ok (.iaload, 1) := dk_46 (dk_at dksX1_why_3 4 rfl rfl)
theorem dX1_why_75 : decode cX1_why 75 = .ok (.i2f, 1) := dk_134 (dk_at dksX1_why_3 5 rfl rfl)
theorem dX1_why_76 : decode cX1_why 76 = .ok (.fcmp .l, 1) := dk_149 (dk_at dksX1_why_3 6 rfl rfl)
theorem dX1_why_77 : decode cX1_why 77 = .ok (.ifCond .le 7, 3) := dk_158 0 7 (dk_at dksX1_why_3 7 rfl rfl)
theorem dX1_why_80 : decode cX1_why 80 = .ok (.iconst 5, 1) := dk_8 (dk_at dksX1_why_3 10 rfl rfl)
theorem dX1_why_81 : decode cX1_why 81 = .ok (.goto 4, 3) := dk_167 0 4 (dk_at dksX1_why_3 11 rfl rfl)
theorem dX1_why_84 : decode cX1_why 84 = .ok (.iconst 0, 1) := dk_3 (dk_at dksX1_why_3 14 rfl rfl)
theorem dX1_why_85 : decode cX1_why 85 = .ok (.ireturn, 1) := dk_172 (dk_at dksX1_why_3 15 rfl rfl)
abbrev cX1_blocksOn : ByteArray := prog_4_method_14_code
def yX1_blocksOn : MethodName := ⟨RX1, "blocksOn", "(I)I"⟩
def dkwX1_blocksOn_2 : List UInt8 := [180, 0, 101, 120, 167, 0, 4, 3, 128, 61, 167, 255, 213, 28, 172]
abbrev dktX1_blocksOn_2 : List UInt8 := dkwX1_blocksOn_2 ++ []
def dkwX1_blocksOn_1 : List UInt8 := [185, 0, 61, 1, 0, 192, 0, 64, 58, 4, 28, 25, 4, 27, 182, 0, 172, 153, 0, 13, 4, 25, 4]
abbrev dktX1_blocksOn_1 : List UInt8 := dkwX1_blocksOn_1 ++ dktX1_blocksOn_2
def dkwX1_blocksOn_0 : List UInt8 := [3, 61, 42, 180, 0, 41, 185, 0, 49, 1, 0, 78, 45, 185, 0, 55, 1, 0, 153, 0, 40, 45]
abbrev dktX1_blocksOn_0 : List UInt8 := dkwX1_blocksOn_0 ++ dktX1_blocksOn_1
theorem dksX1_blocksOn_0 : cX1_blocksOn.data.toList.drop 0 = dktX1_blocksOn_0 := by decide +kernel
theorem dksX1_blocksOn_1 : cX1_blocksOn.data.toList.drop 22 = dktX1_blocksOn_1 := dk_seg dksX1_blocksOn_0 22 rfl rfl
theorem dksX1_blocksOn_2 : cX1_blocksOn.data.toList.drop 45 = dktX1_blocksOn_2 := dk_seg dksX1_blocksOn_1 23 rfl rfl
theorem dX1_blocksOn_0 : decode cX1_blocksOn 0 = .ok (.iconst 0, 1) := dk_3 (dk_at dksX1_blocksOn_0 0 rfl rfl)
theorem dX1_blocksOn_1 : decode cX1_blocksOn 1 = .ok (.istore_n 2, 1) := dk_61 (dk_at dksX1_blocksOn_0 1 rfl rfl)
theorem dX1_blocksOn_2 : decode cX1_blocksOn 2 = .ok (.aload_n 0, 1) := dk_42 (dk_at dksX1_blocksOn_0 2 rfl rfl)
theorem dX1_blocksOn_3 : decode cX1_blocksOn 3 = .ok (.getfield 41, 3) := dk_180 0 41 (dk_at dksX1_blocksOn_0 3 rfl rfl)
theorem dX1_blocksOn_6 : decode cX1_blocksOn 6 = .ok (.invokeinterface 49 1, 5) := by decide +kernel
theorem dX1_blocksOn_11 : decode cX1_blocksOn 11 = .ok (.astore_n 3, 1) := dk_78 (dk_at dksX1_blocksOn_0 11 rfl rfl)
theorem dX1_blocksOn_12 : decode cX1_blocksOn 12 = .ok (.aload_n 3, 1) := dk_45 (dk_at dksX1_blocksOn_0 12 rfl rfl)
theorem dX1_blocksOn_13 : decode cX1_blocksOn 13 = .ok (.invokeinterface 55 1, 5) := by decide +kernel
theorem dX1_blocksOn_18 : decode cX1_blocksOn 18 = .ok (.ifCond .eq 40, 3) := dk_153 0 40 (dk_at dksX1_blocksOn_0 18 rfl rfl)
theorem dX1_blocksOn_21 : decode cX1_blocksOn 21 = .ok (.aload_n 3, 1) := dk_45 (dk_at dksX1_blocksOn_0 21 rfl rfl)
theorem dX1_blocksOn_22 : decode cX1_blocksOn 22 = .ok (.invokeinterface 61 1, 5) := by decide +kernel
theorem dX1_blocksOn_27 : decode cX1_blocksOn 27 = .ok (.checkcast 64, 3) := dk_192 0 64 (dk_at dksX1_blocksOn_1 5 rfl rfl)
theorem dX1_blocksOn_30 : decode cX1_blocksOn 30 = .ok (.astore 4, 2) := dk_58 4 (dk_at dksX1_blocksOn_1 8 rfl rfl)
theorem dX1_blocksOn_32 : decode cX1_blocksOn 32 = .ok (.iload_n 2, 1) := dk_28 (dk_at dksX1_blocksOn_1 10 rfl rfl)
theorem dX1_blocksOn_33 : decode cX1_blocksOn 33 = .ok (.aload 4, 2) := dk_25 4 (dk_at dksX1_blocksOn_1 11 rfl rfl)
theorem dX1_blocksOn_35 : decode cX1_blocksOn 35 = .ok (.iload_n 1, 1) := dk_27 (dk_at dksX1_blocksOn_1 13 rfl rfl)
theorem dX1_blocksOn_36 : decode cX1_blocksOn 36 = .ok (.invokevirtual 172, 3) := dk_182 0 172 (dk_at dksX1_blocksOn_1 14 rfl rfl)
theorem dX1_blocksOn_39 : decode cX1_blocksOn 39 = .ok (.ifCond .eq 13, 3) := dk_153 0 13 (dk_at dksX1_blocksOn_1 17 rfl rfl)
theorem dX1_blocksOn_42 : decode cX1_blocksOn 42 = .ok (.iconst 1, 1) := dk_4 (dk_at dksX1_blocksOn_1 20 rfl rfl)
theorem dX1_blocksOn_43 : decode cX1_blocksOn 43 = .ok (.aload 4, 2) := dk_25 4 (dk_at dksX1_blocksOn_1 21 rfl rfl)
theorem dX1_blocksOn_45 : decode cX1_blocksOn 45 = .ok (.getfield 101, 3) := dk_180 0 101 (dk_at dksX1_blocksOn_2 0 rfl rfl)
theorem dX1_blocksOn_48 : decode cX1_blocksOn 48 = .ok (.ishl, 1) := dk_120 (dk_at dksX1_blocksOn_2 3 rfl rfl)
theorem dX1_blocksOn_49 : decode cX1_blocksOn 49 = .ok (.goto 4, 3) := dk_167 0 4 (dk_at dksX1_blocksOn_2 4 rfl rfl)
theorem dX1_blocksOn_52 : decode cX1_blocksOn 52 = .ok (.iconst 0, 1) := dk_3 (dk_at dksX1_blocksOn_2 7 rfl rfl)
theorem dX1_blocksOn_53 : decode cX1_blocksOn 53 = .ok (.ior, 1) := dk_128 (dk_at dksX1_blocksOn_2 8 rfl rfl)
theorem dX1_blocksOn_54 : decode cX1_blocksOn 54 = .ok (.istore_n 2, 1) := dk_61 (dk_at dksX1_blocksOn_2 9 rfl rfl)
theorem dX1_blocksOn_55 : decode cX1_blocksOn 55 = .ok (.goto (-43), 3) := dk_167 255 213 (dk_at dksX1_blocksOn_2 10 rfl rfl)
theorem dX1_blocksOn_58 : decode cX1_blocksOn 58 = .ok (.iload_n 2, 1) := dk_28 (dk_at dksX1_blocksOn_2 13 rfl rfl)
theorem dX1_blocksOn_59 : decode cX1_blocksOn 59 = .ok (.ireturn, 1) := dk_172 (dk_at dksX1_blocksOn_2 14 rfl rfl)
abbrev cX1_hasCracked : ByteArray := prog_4_method_17_code
def yX1_hasCracked : MethodName := ⟨RX1, "hasCracked", "(I)Z"⟩
def dkwX1_hasCracked_2 : List UInt8 := [180, 0, 145, 153, 0, 7, 4, 167, 0, 4, 3, 128, 61, 167, 255, 211, 28, 172]
abbrev dktX1_hasCracked_2 : List UInt8 := dkwX1_hasCracked_2 ++ []
def dkwX1_hasCracked_1 : List UInt8 := [185, 0, 61, 1, 0, 192, 0, 64, 58, 4, 28, 25, 4, 27, 182, 0, 172, 153, 0, 15, 25, 4]
abbrev dktX1_hasCracked_1 : List UInt8 := dkwX1_hasCracked_1 ++ dktX1_hasCracked_2
def dkwX1_hasCracked_0 : List UInt8 := [3, 61, 42, 180, 0, 41, 185, 0, 49, 1, 0, 78, 45, 185, 0, 55, 1, 0, 153, 0, 42, 45]
abbrev dktX1_hasCracked_0 : List UInt8 := dkwX1_hasCracked_0 ++ dktX1_hasCracked_1
theorem dksX1_hasCracked_0 : cX1_hasCracked.data.toList.drop 0 = dktX1_hasCracked_0 := by decide +kernel
theorem dksX1_hasCracked_1 : cX1_hasCracked.data.toList.drop 22 = dktX1_hasCracked_1 := dk_seg dksX1_hasCracked_0 22 rfl rfl
theorem dksX1_hasCracked_2 : cX1_hasCracked.data.toList.drop 44 = dktX1_hasCracked_2 := dk_seg dksX1_hasCracked_1 22 rfl rfl
theorem dX1_hasCracked_0 : decode cX1_hasCracked 0 = .ok (.iconst 0, 1) := dk_3 (dk_at dksX1_hasCracked_0 0 rfl rfl)
theorem dX1_hasCracked_1 : decode cX1_hasCracked 1 = .ok (.istore_n 2, 1) := dk_61 (dk_at dksX1_hasCracked_0 1 rfl rfl)
theorem dX1_hasCracked_2 : decode cX1_hasCracked 2 = .ok (.aload_n 0, 1) := dk_42 (dk_at dksX1_hasCracked_0 2 rfl rfl)
theorem dX1_hasCracked_3 : decode cX1_hasCracked 3 = .ok (.getfield 41, 3) := dk_180 0 41 (dk_at dksX1_hasCracked_0 3 rfl rfl)
theorem dX1_hasCracked_6 : decode cX1_hasCracked 6 = .ok (.invokeinterface 49 1, 5) := by decide +kernel
theorem dX1_hasCracked_11 : decode cX1_hasCracked 11 = .ok (.astore_n 3, 1) := dk_78 (dk_at dksX1_hasCracked_0 11 rfl rfl)
theorem dX1_hasCracked_12 : decode cX1_hasCracked 12 = .ok (.aload_n 3, 1) := dk_45 (dk_at dksX1_hasCracked_0 12 rfl rfl)
theorem dX1_hasCracked_13 : decode cX1_hasCracked 13 = .ok (.invokeinterface 55 1, 5) := by decide +kernel
theorem dX1_hasCracked_18 : decode cX1_hasCracked 18 = .ok (.ifCond .eq 42, 3) := dk_153 0 42 (dk_at dksX1_hasCracked_0 18 rfl rfl)
theorem dX1_hasCracked_21 : decode cX1_hasCracked 21 = .ok (.aload_n 3, 1) := dk_45 (dk_at dksX1_hasCracked_0 21 rfl rfl)
theorem dX1_hasCracked_22 : decode cX1_hasCracked 22 = .ok (.invokeinterface 61 1, 5) := by decide +kernel
theorem dX1_hasCracked_27 : decode cX1_hasCracked 27 = .ok (.checkcast 64, 3) := dk_192 0 64 (dk_at dksX1_hasCracked_1 5 rfl rfl)
theorem dX1_hasCracked_30 : decode cX1_hasCracked 30 = .ok (.astore 4, 2) := dk_58 4 (dk_at dksX1_hasCracked_1 8 rfl rfl)
theorem dX1_hasCracked_32 : decode cX1_hasCracked 32 = .ok (.iload_n 2, 1) := dk_28 (dk_at dksX1_hasCracked_1 10 rfl rfl)
theorem dX1_hasCracked_33 : decode cX1_hasCracked 33 = .ok (.aload 4, 2) := dk_25 4 (dk_at dksX1_hasCracked_1 11 rfl rfl)
theorem dX1_hasCracked_35 : decode cX1_hasCracked 35 = .ok (.iload_n 1, 1) := dk_27 (dk_at dksX1_hasCracked_1 13 rfl rfl)
theorem dX1_hasCracked_36 : decode cX1_hasCracked 36 = .ok (.invokevirtual 172, 3) := dk_182 0 172 (dk_at dksX1_hasCracked_1 14 rfl rfl)
theorem dX1_hasCracked_39 : decode cX1_hasCracked 39 = .ok (.ifCond .eq 15, 3) := dk_153 0 15 (dk_at dksX1_hasCracked_1 17 rfl rfl)
theorem dX1_hasCracked_42 : decode cX1_hasCracked 42 = .ok (.aload 4, 2) := dk_25 4 (dk_at dksX1_hasCracked_1 20 rfl rfl)
theorem dX1_hasCracked_44 : decode cX1_hasCracked 44 = .ok (.getfield 145, 3) := dk_180 0 145 (dk_at dksX1_hasCracked_2 0 rfl rfl)
theorem dX1_hasCracked_47 : decode cX1_hasCracked 47 = .ok (.ifCond .eq 7, 3) := dk_153 0 7 (dk_at dksX1_hasCracked_2 3 rfl rfl)
theorem dX1_hasCracked_50 : decode cX1_hasCracked 50 = .ok (.iconst 1, 1) := dk_4 (dk_at dksX1_hasCracked_2 6 rfl rfl)
theorem dX1_hasCracked_51 : decode cX1_hasCracked 51 = .ok (.goto 4, 3) := dk_167 0 4 (dk_at dksX1_hasCracked_2 7 rfl rfl)
theorem dX1_hasCracked_54 : decode cX1_hasCracked 54 = .ok (.iconst 0, 1) := dk_3 (dk_at dksX1_hasCracked_2 10 rfl rfl)
theorem dX1_hasCracked_55 : decode cX1_hasCracked 55 = .ok (.ior, 1) := dk_128 (dk_at dksX1_hasCracked_2 11 rfl rfl)
theorem dX1_hasCracked_56 : decode cX1_hasCracked 56 = .ok (.istore_n 2, 1) := dk_61 (dk_at dksX1_hasCracked_2 12 rfl rfl)
theorem dX1_hasCracked_57 : decode cX1_hasCracked 57 = .ok (.goto (-45), 3) := dk_167 255 211 (dk_at dksX1_hasCracked_2 13 rfl rfl)
theorem dX1_hasCracked_60 : decode cX1_hasCracked 60 = .ok (.iload_n 2, 1) := dk_28 (dk_at dksX1_hasCracked_2 16 rfl rfl)
theorem dX1_hasCracked_61 : decode cX1_hasCracked 61 = .ok (.ireturn, 1) := dk_172 (dk_at dksX1_hasCracked_2 17 rfl rfl)
abbrev cX1_axle : ByteArray := prog_4_method_16_code
def yX1_axle : MethodName := ⟨RX1, "axle", "(IZLQuarryOrders$Block;I)F"⟩
def dkwX1_axle_3 : List UInt8 := [167, 255, 193, 23, 5, 174]
abbrev dktX1_axle_3 : List UInt8 := dkwX1_axle_3 ++ []
def dkwX1_axle_2 : List UInt8 := [153, 0, 8, 21, 6, 167, 0, 7, 7, 21, 6, 100, 134, 106, 18, 183, 110, 98, 56, 5, 132, 6, 1]
abbrev dktX1_axle_2 : List UInt8 := dkwX1_axle_2 ++ dktX1_axle_3
def dkwX1_axle_1 : List UInt8 := [27, 21, 6, 182, 0, 179, 58, 7, 25, 7, 198, 0, 32, 23, 5, 25, 7, 182, 0, 120, 134, 28]
abbrev dktX1_axle_1 : List UInt8 := dkwX1_axle_1 ++ dktX1_axle_2
def dkwX1_axle_0 : List UInt8 := [11, 56, 5, 3, 54, 6, 21, 6, 8, 162, 0, 63, 21, 6, 21, 4, 160, 0, 7, 45, 167, 0, 10, 42]
abbrev dktX1_axle_0 : List UInt8 := dkwX1_axle_0 ++ dktX1_axle_1
theorem dksX1_axle_0 : cX1_axle.data.toList.drop 0 = dktX1_axle_0 := by decide +kernel
theorem dksX1_axle_1 : cX1_axle.data.toList.drop 24 = dktX1_axle_1 := dk_seg dksX1_axle_0 24 rfl rfl
theorem dksX1_axle_2 : cX1_axle.data.toList.drop 46 = dktX1_axle_2 := dk_seg dksX1_axle_1 22 rfl rfl
theorem dksX1_axle_3 : cX1_axle.data.toList.drop 69 = dktX1_axle_3 := dk_seg dksX1_axle_2 23 rfl rfl
theorem dX1_axle_0 : decode cX1_axle 0 = .ok (.fconst 0, 1) := dk_11 (dk_at dksX1_axle_0 0 rfl rfl)
theorem dX1_axle_1 : decode cX1_axle 1 = .ok (.fstore 5, 2) := dk_56 5 (dk_at dksX1_axle_0 1 rfl rfl)
theorem dX1_axle_3 : decode cX1_axle 3 = .ok (.iconst 0, 1) := dk_3 (dk_at dksX1_axle_0 3 rfl rfl)
theorem dX1_axle_4 : decode cX1_axle 4 = .ok (.istore 6, 2) := dk_54 6 (dk_at dksX1_axle_0 4 rfl rfl)
theorem dX1_axle_6 : decode cX1_axle 6 = .ok (.iload 6, 2) := dk_21 6 (dk_at dksX1_axle_0 6 rfl rfl)
theorem dX1_axle_8 : decode cX1_axle 8 = .ok (.iconst 5, 1) := dk_8 (dk_at dksX1_axle_0 8 rfl rfl)
theorem dX1_axle_9 : decode cX1_axle 9 = .ok (.if_icmp .ge 63, 3) := dk_162 0 63 (dk_at dksX1_axle_0 9 rfl rfl)
theorem dX1_axle_12 : decode cX1_axle 12 = .ok (.iload 6, 2) := dk_21 6 (dk_at dksX1_axle_0 12 rfl rfl)
theorem dX1_axle_14 : decode cX1_axle 14 = .ok (.iload 4, 2) := dk_21 4 (dk_at dksX1_axle_0 14 rfl rfl)
theorem dX1_axle_16 : decode cX1_axle 16 = .ok (.if_icmp .ne 7, 3) := dk_160 0 7 (dk_at dksX1_axle_0 16 rfl rfl)
theorem dX1_axle_19 : decode cX1_axle 19 = .ok (.aload_n 3, 1) := dk_45 (dk_at dksX1_axle_0 19 rfl rfl)
theorem dX1_axle_20 : decode cX1_axle 20 = .ok (.goto 10, 3) := dk_167 0 10 (dk_at dksX1_axle_0 20 rfl rfl)
theorem dX1_axle_23 : decode cX1_axle 23 = .ok (.aload_n 0, 1) := dk_42 (dk_at dksX1_axle_0 23 rfl rfl)
theorem dX1_axle_24 : decode cX1_axle 24 = .ok (.iload_n 1, 1) := dk_27 (dk_at dksX1_axle_1 0 rfl rfl)
theorem dX1_axle_25 : decode cX1_axle 25 = .ok (.iload 6, 2) := dk_21 6 (dk_at dksX1_axle_1 1 rfl rfl)
theorem dX1_axle_27 : decode cX1_axle 27 = .ok (.invokevirtual 179, 3) := dk_182 0 179 (dk_at dksX1_axle_1 3 rfl rfl)
theorem dX1_axle_30 : decode cX1_axle 30 = .ok (.astore 7, 2) := dk_58 7 (dk_at dksX1_axle_1 6 rfl rfl)
theorem dX1_axle_32 : decode cX1_axle 32 = .ok (.aload 7, 2) := dk_25 7 (dk_at dksX1_axle_1 8 rfl rfl)
theorem dX1_axle_34 : decode cX1_axle 34 = .ok (.ifnull 32, 3) := dk_198 0 32 (dk_at dksX1_axle_1 10 rfl rfl)
theorem dX1_axle_37 : decode cX1_axle 37 = .ok (.fload 5, 2) := dk_23 5 (dk_at dksX1_axle_1 13 rfl rfl)
theorem dX1_axle_39 : decode cX1_axle 39 = .ok (.aload 7, 2) := dk_25 7 (dk_at dksX1_axle_1 15 rfl rfl)
theorem dX1_axle_41 : decode cX1_axle 41 = .ok (.invokevirtual 120, 3) := dk_182 0 120 (dk_at dksX1_axle_1 17 rfl rfl)
theorem dX1_axle_44 : decode cX1_axle 44 = .ok (.i2f, 1) := dk_134 (dk_at dksX1_axle_1 20 rfl rfl)
theorem dX1_axle_45 : decode cX1_axle 45 = .ok (.iload_n 2, 1) := dk_28 (dk_at dksX1_axle_1 21 rfl rfl)
theorem dX1_axle_46 : decode cX1_axle 46 = .ok (.ifCond .eq 8, 3) := dk_153 0 8 (dk_at dksX1_axle_2 0 rfl rfl)
theorem dX1_axle_49 : decode cX1_axle 49 = .ok (.iload 6, 2) := dk_21 6 (dk_at dksX1_axle_2 3 rfl rfl)
theorem dX1_axle_51 : decode cX1_axle 51 = .ok (.goto 7, 3) := dk_167 0 7 (dk_at dksX1_axle_2 5 rfl rfl)
theorem dX1_axle_54 : decode cX1_axle 54 = .ok (.iconst 4, 1) := dk_7 (dk_at dksX1_axle_2 8 rfl rfl)
theorem dX1_axle_55 : decode cX1_axle 55 = .ok (.iload 6, 2) := dk_21 6 (dk_at dksX1_axle_2 9 rfl rfl)
theorem dX1_axle_57 : decode cX1_axle 57 = .ok (.isub, 1) := dk_100 (dk_at dksX1_axle_2 11 rfl rfl)
theorem dX1_axle_58 : decode cX1_axle 58 = .ok (.i2f, 1) := dk_134 (dk_at dksX1_axle_2 12 rfl rfl)
theorem dX1_axle_59 : decode cX1_axle 59 = .ok (.fmul, 1) := dk_106 (dk_at dksX1_axle_2 13 rfl rfl)
theorem dX1_axle_60 : decode cX1_axle 60 = .ok (.ldc 183, 2) := dk_18 183 (dk_at dksX1_axle_2 14 rfl rfl)
theorem dX1_axle_62 : decode cX1_axle 62 = .ok (.fdiv, 1) := dk_110 (dk_at dksX1_axle_2 16 rfl rfl)
theorem dX1_axle_63 : decode cX1_axle 63 = .ok (.fadd, 1) := dk_98 (dk_at dksX1_axle_2 17 rfl rfl)
theorem dX1_axle_64 : decode cX1_axle 64 = .ok (.fstore 5, 2) := dk_56 5 (dk_at dksX1_axle_2 18 rfl rfl)
theorem dX1_axle_66 : decode cX1_axle 66 = .ok (.iinc 6 1, 3) := dk_132 6 1 (dk_at dksX1_axle_2 20 rfl rfl)
theorem dX1_axle_69 : decode cX1_axle 69 = .ok (.goto (-63), 3) := dk_167 255 193 (dk_at dksX1_axle_3 0 rfl rfl)
theorem dX1_axle_72 : decode cX1_axle 72 = .ok (.fload 5, 2) := dk_23 5 (dk_at dksX1_axle_3 3 rfl rfl)
theorem dX1_axle_74 : decode cX1_axle 74 = .ok (.freturn, 1) := dk_174 (dk_at dksX1_axle_3 5 rfl rfl)
abbrev cX1_leave : ByteArray := prog_4_method_20_code
def yX1_leave : MethodName := ⟨RX1, "leave", "(I)I"⟩
def dkwX1_leave_3 : List UInt8 := [180, 0, 95, 28, 96, 181, 0, 95, 28, 172]
abbrev dktX1_leave_3 : List UInt8 := dkwX1_leave_3 ++ []
def dkwX1_leave_2 : List UInt8 := [182, 0, 204, 167, 0, 4, 3, 96, 61, 167, 255, 214, 42, 180, 0, 35, 27, 92, 46, 4, 96, 79, 42, 89]
abbrev dktX1_leave_2 : List UInt8 := dkwX1_leave_2 ++ dktX1_leave_3
def dkwX1_leave_1 : List UInt8 := [185, 0, 61, 1, 0, 192, 0, 64, 58, 4, 28, 25, 4, 27, 182, 0, 172, 153, 0, 12, 42, 25, 4]
abbrev dktX1_leave_1 : List UInt8 := dkwX1_leave_1 ++ dktX1_leave_2
def dkwX1_leave_0 : List UInt8 := [3, 61, 42, 180, 0, 41, 185, 0, 49, 1, 0, 78, 45, 185, 0, 55, 1, 0, 153, 0, 39, 45]
abbrev dktX1_leave_0 : List UInt8 := dkwX1_leave_0 ++ dktX1_leave_1
theorem dksX1_leave_0 : cX1_leave.data.toList.drop 0 = dktX1_leave_0 := by decide +kernel
theorem dksX1_leave_1 : cX1_leave.data.toList.drop 22 = dktX1_leave_1 := dk_seg dksX1_leave_0 22 rfl rfl
theorem dksX1_leave_2 : cX1_leave.data.toList.drop 45 = dktX1_leave_2 := dk_seg dksX1_leave_1 23 rfl rfl
theorem dksX1_leave_3 : cX1_leave.data.toList.drop 69 = dktX1_leave_3 := dk_seg dksX1_leave_2 24 rfl rfl
theorem dX1_leave_0 : decode cX1_leave 0 = .ok (.iconst 0, 1) := dk_3 (dk_at dksX1_leave_0 0 rfl rfl)
theorem dX1_leave_1 : decode cX1_leave 1 = .ok (.istore_n 2, 1) := dk_61 (dk_at dksX1_leave_0 1 rfl rfl)
theorem dX1_leave_2 : decode cX1_leave 2 = .ok (.aload_n 0, 1) := dk_42 (dk_at dksX1_leave_0 2 rfl rfl)
theorem dX1_leave_3 : decode cX1_leave 3 = .ok (.getfield 41, 3) := dk_180 0 41 (dk_at dksX1_leave_0 3 rfl rfl)
theorem dX1_leave_6 : decode cX1_leave 6 = .ok (.invokeinterface 49 1, 5) := by decide +kernel
theorem dX1_leave_11 : decode cX1_leave 11 = .ok (.astore_n 3, 1) := dk_78 (dk_at dksX1_leave_0 11 rfl rfl)
theorem dX1_leave_12 : decode cX1_leave 12 = .ok (.aload_n 3, 1) := dk_45 (dk_at dksX1_leave_0 12 rfl rfl)
theorem dX1_leave_13 : decode cX1_leave 13 = .ok (.invokeinterface 55 1, 5) := by decide +kernel
theorem dX1_leave_18 : decode cX1_leave 18 = .ok (.ifCond .eq 39, 3) := dk_153 0 39 (dk_at dksX1_leave_0 18 rfl rfl)
theorem dX1_leave_21 : decode cX1_leave 21 = .ok (.aload_n 3, 1) := dk_45 (dk_at dksX1_leave_0 21 rfl rfl)
theorem dX1_leave_22 : decode cX1_leave 22 = .ok (.invokeinterface 61 1, 5) := by decide +kernel
theorem dX1_leave_27 : decode cX1_leave 27 = .ok (.checkcast 64, 3) := dk_192 0 64 (dk_at dksX1_leave_1 5 rfl rfl)
theorem dX1_leave_30 : decode cX1_leave 30 = .ok (.astore 4, 2) := dk_58 4 (dk_at dksX1_leave_1 8 rfl rfl)
theorem dX1_leave_32 : decode cX1_leave 32 = .ok (.iload_n 2, 1) := dk_28 (dk_at dksX1_leave_1 10 rfl rfl)
theorem dX1_leave_33 : decode cX1_leave 33 = .ok (.aload 4, 2) := dk_25 4 (dk_at dksX1_leave_1 11 rfl rfl)
theorem dX1_leave_35 : decode cX1_leave 35 = .ok (.iload_n 1, 1) := dk_27 (dk_at dksX1_leave_1 13 rfl rfl)
theorem dX1_leave_36 : decode cX1_leave 36 = .ok (.invokevirtual 172, 3) := dk_182 0 172 (dk_at dksX1_leave_1 14 rfl rfl)
theorem dX1_leave_39 : decode cX1_leave 39 = .ok (.ifCond .eq 12, 3) := dk_153 0 12 (dk_at dksX1_leave_1 17 rfl rfl)
theorem dX1_leave_42 : decode cX1_leave 42 = .ok (.aload_n 0, 1) := dk_42 (dk_at dksX1_leave_1 20 rfl rfl)
theorem dX1_leave_43 : decode cX1_leave 43 = .ok (.aload 4, 2) := dk_25 4 (dk_at dksX1_leave_1 21 rfl rfl)
theorem dX1_leave_45 : decode cX1_leave 45 = .ok (.invokevirtual 204, 3) := dk_182 0 204 (dk_at dksX1_leave_2 0 rfl rfl)
theorem dX1_leave_48 : decode cX1_leave 48 = .ok (.goto 4, 3) := dk_167 0 4 (dk_at dksX1_leave_2 3 rfl rfl)
theorem dX1_leave_51 : decode cX1_leave 51 = .ok (.iconst 0, 1) := dk_3 (dk_at dksX1_leave_2 6 rfl rfl)
theorem dX1_leave_52 : decode cX1_leave 52 = .ok (.iadd, 1) := dk_96 (dk_at dksX1_leave_2 7 rfl rfl)
theorem dX1_leave_53 : decode cX1_leave 53 = .ok (.istore_n 2, 1) := dk_61 (dk_at dksX1_leave_2 8 rfl rfl)
theorem dX1_leave_54 : decode cX1_leave 54 = .ok (.goto (-42), 3) := dk_167 255 214 (dk_at dksX1_leave_2 9 rfl rfl)
theorem dX1_leave_57 : decode cX1_leave 57 = .ok (.aload_n 0, 1) := dk_42 (dk_at dksX1_leave_2 12 rfl rfl)
theorem dX1_leave_58 : decode cX1_leave 58 = .ok (.getfield 35, 3) := dk_180 0 35 (dk_at dksX1_leave_2 13 rfl rfl)
theorem dX1_leave_61 : decode cX1_leave 61 = .ok (.iload_n 1, 1) := dk_27 (dk_at dksX1_leave_2 16 rfl rfl)
theorem dX1_leave_62 : decode cX1_leave 62 = .ok (.dup2, 1) := dk_92 (dk_at dksX1_leave_2 17 rfl rfl)
theorem dX1_leave_63 : decode cX1_leave 63 = .ok (.iaload, 1) := dk_46 (dk_at dksX1_leave_2 18 rfl rfl)
theorem dX1_leave_64 : decode cX1_leave 64 = .ok (.iconst 1, 1) := dk_4 (dk_at dksX1_leave_2 19 rfl rfl)
theorem dX1_leave_65 : decode cX1_leave 65 = .ok (.iadd, 1) := dk_96 (dk_at dksX1_leave_2 20 rfl rfl)
theorem dX1_leave_66 : decode cX1_leave 66 = .ok (.iastore, 1) := dk_79 (dk_at dksX1_leave_2 21 rfl rfl)
theorem dX1_leave_67 : decode cX1_leave 67 = .ok (.aload_n 0, 1) := dk_42 (dk_at dksX1_leave_2 22 rfl rfl)
theorem dX1_leave_68 : decode cX1_leave 68 = .ok (.dup, 1) := dk_89 (dk_at dksX1_leave_2 23 rfl rfl)
theorem dX1_leave_69 : decode cX1_leave 69 = .ok (.getfield 95, 3) := dk_180 0 95 (dk_at dksX1_leave_3 0 rfl rfl)
theorem dX1_leave_72 : decode cX1_leave 72 = .ok (.iload_n 2, 1) := dk_28 (dk_at dksX1_leave_3 3 rfl rfl)
theorem dX1_leave_73 : decode cX1_leave 73 = .ok (.iadd, 1) := dk_96 (dk_at dksX1_leave_3 4 rfl rfl)
theorem dX1_leave_74 : decode cX1_leave 74 = .ok (.putfield 95, 3) := dk_181 0 95 (dk_at dksX1_leave_3 5 rfl rfl)
theorem dX1_leave_77 : decode cX1_leave 77 = .ok (.iload_n 2, 1) := dk_28 (dk_at dksX1_leave_3 8 rfl rfl)
theorem dX1_leave_78 : decode cX1_leave 78 = .ok (.ireturn, 1) := dk_172 (dk_at dksX1_leave_3 9 rfl rfl)
abbrev cX1_deliver : ByteArray := prog_4_method_19_code
def yX1_deliver : MethodName := ⟨RX1, "deliver", "(LQuarryOrders$Block;)I"⟩
def dkwX1_deliver_3 : List UInt8 := [100, 16, 100, 108, 104, 181, 0, 201, 44, 180, 0, 201, 172]
abbrev dktX1_deliver_3 : List UInt8 := dkwX1_deliver_3 ++ []
def dkwX1_deliver_2 : List UInt8 := [192, 0, 73, 77, 44, 5, 181, 0, 166, 44, 42, 180, 0, 23, 4, 46, 43, 182, 0, 120, 16, 100, 96, 4]
abbrev dktX1_deliver_2 : List UInt8 := dkwX1_deliver_2 ++ dktX1_deliver_3
def dkwX1_deliver_1 : List UInt8 := [43, 180, 0, 158, 156, 0, 5, 3, 172, 42, 180, 0, 45, 43, 180, 0, 158, 185, 0, 197, 2, 0]
abbrev dktX1_deliver_1 : List UInt8 := dkwX1_deliver_1 ++ dktX1_deliver_2
def dkwX1_deliver_0 : List UInt8 := [43, 6, 181, 0, 98, 43, 16, 250, 181, 0, 176, 42, 89, 180, 0, 92, 43, 182, 0, 120, 96, 181, 0, 92]
abbrev dktX1_deliver_0 : List UInt8 := dkwX1_deliver_0 ++ dktX1_deliver_1
theorem dksX1_deliver_0 : cX1_deliver.data.toList.drop 0 = dktX1_deliver_0 := by decide +kernel
theorem dksX1_deliver_1 : cX1_deliver.data.toList.drop 24 = dktX1_deliver_1 := dk_seg dksX1_deliver_0 24 rfl rfl
theorem dksX1_deliver_2 : cX1_deliver.data.toList.drop 46 = dktX1_deliver_2 := dk_seg dksX1_deliver_1 22 rfl rfl
theorem dksX1_deliver_3 : cX1_deliver.data.toList.drop 70 = dktX1_deliver_3 := dk_seg dksX1_deliver_2 24 rfl rfl
theorem dX1_deliver_0 : decode cX1_deliver 0 = .ok (.aload_n 1, 1) := dk_43 (dk_at dksX1_deliver_0 0 rfl rfl)
theorem dX1_deliver_1 : decode cX1_deliver 1 = .ok (.iconst 3, 1) := dk_6 (dk_at dksX1_deliver_0 1 rfl rfl)
theorem dX1_deliver_2 : decode cX1_deliver 2 = .ok (.putfield 98, 3) := dk_181 0 98 (dk_at dksX1_deliver_0 2 rfl rfl)
theorem dX1_deliver_5 : decode cX1_deliver 5 = .ok (.aload_n 1, 1) := dk_43 (dk_at dksX1_deliver_0 5 rfl rfl)
theorem dX1_deliver_6 : decode cX1_deliver 6 = .ok (.bipush (-6), 2) := dk_16 250 (dk_at dksX1_deliver_0 6 rfl rfl)
theorem dX1_deliver_8 : decode cX1_deliver 8 = .ok (.putfield 176, 3) := dk_181 0 176 (dk_at dksX1_deliver_0 8 rfl rfl)
theorem dX1_deliver_11 : decode cX1_deliver 11 = .ok (.aload_n 0, 1) := dk_42 (dk_at dksX1_deliver_0 11 rfl rfl)
theorem dX1_deliver_12 : decode cX1_deliver 12 = .ok (.dup, 1) := dk_89 (dk_at dksX1_deliver_0 12 rfl rfl)
theorem dX1_deliver_13 : decode cX1_deliver 13 = .ok (.getfield 92, 3) := dk_180 0 92 (dk_at dksX1_deliver_0 13 rfl rfl)
theorem dX1_deliver_16 : decode cX1_deliver 16 = .ok (.aload_n 1, 1) := dk_43 (dk_at dksX1_deliver_0 16 rfl rfl)
theorem dX1_deliver_17 : decode cX1_deliver 17 = .ok (.invokevirtual 120, 3) := dk_182 0 120 (dk_at dksX1_deliver_0 17 rfl rfl)
theorem dX1_deliver_20 : decode cX1_deliver 20 = .ok (.iadd, 1) := dk_96 (dk_at dksX1_deliver_0 20 rfl rfl)
theorem dX1_deliver_21 : decode cX1_deliver 21 = .ok (.putfield 92, 3) := dk_181 0 92 (dk_at dksX1_deliver_0 21 rfl rfl)
theorem dX1_deliver_24 : decode cX1_deliver 24 = .ok (.aload_n 1, 1) := dk_43 (dk_at dksX1_deliver_1 0 rfl rfl)
theorem dX1_deliver_25 : decode cX1_deliver 25 = .ok (.getfield 158, 3) := dk_180 0 158 (dk_at dksX1_deliver_1 1 rfl rfl)
theorem dX1_deliver_28 : decode cX1_deliver 28 = .ok (.ifCond .ge 5, 3) := dk_156 0 5 (dk_at dksX1_deliver_1 4 rfl rfl)
theorem dX1_deliver_31 : decode cX1_deliver 31 = .ok (.iconst 0, 1) := dk_3 (dk_at dksX1_deliver_1 7 rfl rfl)
theorem dX1_deliver_32 : decode cX1_deliver 32 = .ok (.ireturn, 1) := dk_172 (dk_at dksX1_deliver_1 8 rfl rfl)
theorem dX1_deliver_33 : decode cX1_deliver 33 = .ok (.aload_n 0, 1) := dk_42 (dk_at dksX1_deliver_1 9 rfl rfl)
theorem dX1_deliver_34 : decode cX1_deliver 34 = .ok (.getfield 45, 3) := dk_180 0 45 (dk_at dksX1_deliver_1 10 rfl rfl)
theorem dX1_deliver_37 : decode cX1_deliver 37 = .ok (.aload_n 1, 1) := dk_43 (dk_at dksX1_deliver_1 13 rfl rfl)
theorem dX1_deliver_38 : decode cX1_deliver 38 = .ok (.getfield 158, 3) := dk_180 0 158 (dk_at dksX1_deliver_1 14 rfl rfl)
theorem dX1_deliver_41 : decode cX1_deliver 41 = .ok (.invokeinterface 197 2, 5) := by decide +kernel
theorem dX1_deliver_46 : decode cX1_deliver 46 = .ok (.checkcast 73, 3) := dk_192 0 73 (dk_at dksX1_deliver_2 0 rfl rfl)
theorem dX1_deliver_49 : decode cX1_deliver 49 = .ok (.astore_n 2, 1) := dk_77 (dk_at dksX1_deliver_2 3 rfl rfl)
theorem dX1_deliver_50 : decode cX1_deliver 50 = .ok (.aload_n 2, 1) := dk_44 (dk_at dksX1_deliver_2 4 rfl rfl)
theorem dX1_deliver_51 : decode cX1_deliver 51 = .ok (.iconst 2, 1) := dk_5 (dk_at dksX1_deliver_2 5 rfl rfl)
theorem dX1_deliver_52 : decode cX1_deliver 52 = .ok (.putfield 166, 3) := dk_181 0 166 (dk_at dksX1_deliver_2 6 rfl rfl)
theorem dX1_deliver_55 : decode cX1_deliver 55 = .ok (.aload_n 2, 1) := dk_44 (dk_at dksX1_deliver_2 9 rfl rfl)
theorem dX1_deliver_56 : decode cX1_deliver 56 = .ok (.aload_n 0, 1) := dk_42 (dk_at dksX1_deliver_2 10 rfl rfl)
theorem dX1_deliver_57 : decode cX1_deliver 57 = .ok (.getfield 23, 3) := dk_180 0 23 (dk_at dksX1_deliver_2 11 rfl rfl)
theorem dX1_deliver_60 : decode cX1_deliver 60 = .ok (.iconst 1, 1) := dk_4 (dk_at dksX1_deliver_2 14 rfl rfl)
theorem dX1_deliver_61 : decode cX1_deliver 61 = .ok (.iaload, 1) := dk_46 (dk_at dksX1_deliver_2 15 rfl rfl)
theorem dX1_deliver_62 : decode cX1_deliver 62 = .ok (.aload_n 1, 1) := dk_43 (dk_at dksX1_deliver_2 16 rfl rfl)
theorem dX1_deliver_63 : decode cX1_deliver 63 = .ok (.invokevirtual 120, 3) := dk_182 0 120 (dk_at dksX1_deliver_2 17 rfl rfl)
theorem dX1_deliver_66 : decode cX1_deliver 66 = .ok (.bipush 100, 2) := dk_16 100 (dk_at dksX1_deliver_2 20 rfl rfl)
theorem dX1_deliver_68 : decode cX1_deliver 68 = .ok (.iadd, 1) := dk_96 (dk_at dksX1_deliver_2 22 rfl rfl)
theorem dX1_deliver_69 : decode cX1_deliver 69 = .ok (.iconst 1, 1) := dk_4 (dk_at dksX1_deliver_2 23 rfl rfl)
theorem dX1_deliver_70 : decode cX1_deliver 70 = .ok (.isub, 1) := dk_100 (dk_at dksX1_deliver_3 0 rfl rfl)
theorem dX1_deliver_71 : decode cX1_deliver 71 = .ok (.bipush 100, 2) := dk_16 100 (dk_at dksX1_deliver_3 1 rfl rfl)
theorem dX1_deliver_73 : decode cX1_deliver 73 = .ok (.idiv, 1) := dk_108 (dk_at dksX1_deliver_3 3 rfl rfl)
theorem dX1_deliver_74 : decode cX1_deliver 74 = .ok (.imul, 1) := dk_104 (dk_at dksX1_deliver_3 4 rfl rfl)
theorem dX1_deliver_75 : decode cX1_deliver 75 = .ok (.putfield 201, 3) := dk_181 0 201 (dk_at dksX1_deliver_3 5 rfl rfl)
theorem dX1_deliver_78 : decode cX1_deliver 78 = .ok (.aload_n 2, 1) := dk_44 (dk_at dksX1_deliver_3 8 rfl rfl)
theorem dX1_deliver_79 : decode cX1_deliver 79 = .ok (.getfield 201, 3) := dk_180 0 201 (dk_at dksX1_deliver_3 9 rfl rfl)
theorem dX1_deliver_82 : decode cX1_deliver 82 = .ok (.ireturn, 1) := dk_172 (dk_at dksX1_deliver_3 12 rfl rfl)
abbrev cX1_night : ByteArray := prog_4_method_22_code
def yX1_night : MethodName := ⟨RX1, "night", "(I)I"⟩
def dkwX1_night_6 : List UInt8 := [96, 181, 0, 82, 28, 172]
abbrev dktX1_night_6 : List UInt8 := dkwX1_night_6 ++ []
def dkwX1_night_5 : List UInt8 := [100, 184, 0, 212, 167, 0, 8, 25, 4, 180, 0, 136, 181, 0, 136, 167, 255, 156, 42, 89, 180, 0, 82, 4]
abbrev dktX1_night_5 : List UInt8 := dkwX1_night_5 ++ dktX1_night_6
def dkwX1_night_4 : List UInt8 := [4, 167, 0, 4, 3, 96, 61, 25, 4, 25, 4, 182, 0, 155, 153, 0, 17, 3, 25, 4, 180, 0, 136, 4]
abbrev dktX1_night_4 : List UInt8 := dkwX1_night_4 ++ dktX1_night_5
def dkwX1_night_3 : List UInt8 := [167, 0, 4, 3, 54, 5, 25, 4, 89, 180, 0, 145, 21, 5, 128, 181, 0, 145, 28, 21, 5, 153, 0, 7]
abbrev dktX1_night_3 : List UInt8 := dkwX1_night_3 ++ dktX1_night_4
def dkwX1_night_2 : List UInt8 := [192, 0, 64, 58, 4, 42, 180, 0, 78, 153, 0, 16, 42, 25, 4, 182, 0, 208, 153, 0, 7, 4]
abbrev dktX1_night_2 : List UInt8 := dkwX1_night_2 ++ dktX1_night_3
def dkwX1_night_1 : List UInt8 := [180, 0, 41, 185, 0, 49, 1, 0, 78, 45, 185, 0, 55, 1, 0, 153, 0, 97, 45, 185, 0, 61, 1, 0]
abbrev dktX1_night_1 : List UInt8 := dkwX1_night_1 ++ dktX1_night_2
def dkwX1_night_0 : List UInt8 := [42, 27, 42, 180, 0, 23, 5, 46, 163, 0, 7, 4, 167, 0, 4, 3, 181, 0, 78, 3, 61, 42]
abbrev dktX1_night_0 : List UInt8 := dkwX1_night_0 ++ dktX1_night_1
theorem dksX1_night_0 : cX1_night.data.toList.drop 0 = dktX1_night_0 := by decide +kernel
theorem dksX1_night_1 : cX1_night.data.toList.drop 22 = dktX1_night_1 := dk_seg dksX1_night_0 22 rfl rfl
theorem dksX1_night_2 : cX1_night.data.toList.drop 46 = dktX1_night_2 := dk_seg dksX1_night_1 24 rfl rfl
theorem dksX1_night_3 : cX1_night.data.toList.drop 68 = dktX1_night_3 := dk_seg dksX1_night_2 22 rfl rfl
theorem dksX1_night_4 : cX1_night.data.toList.drop 92 = dktX1_night_4 := dk_seg dksX1_night_3 24 rfl rfl
theorem dksX1_night_5 : cX1_night.data.toList.drop 116 = dktX1_night_5 := dk_seg dksX1_night_4 24 rfl rfl
theorem dksX1_night_6 : cX1_night.data.toList.drop 140 = dktX1_night_6 := dk_seg dksX1_night_5 24 rfl rfl
theorem dX1_night_0 : decode cX1_night 0 = .ok (.aload_n 0, 1) := dk_42 (dk_at dksX1_night_0 0 rfl rfl)
theorem dX1_night_1 : decode cX1_night 1 = .ok (.iload_n 1, 1) := dk_27 (dk_at dksX1_night_0 1 rfl rfl)
theorem dX1_night_2 : decode cX1_night 2 = .ok (.aload_n 0, 1) := dk_42 (dk_at dksX1_night_0 2 rfl rfl)
theorem dX1_night_3 : decode cX1_night 3 = .ok (.getfield 23, 3) := dk_180 0 23 (dk_at dksX1_night_0 3 rfl rfl)
theorem dX1_night_6 : decode cX1_night 6 = .ok (.iconst 2, 1) := dk_5 (dk_at dksX1_night_0 6 rfl rfl)
theorem dX1_night_7 : decode cX1_night 7 = .ok (.iaload, 1) := dk_46 (dk_at dksX1_night_0 7 rfl rfl)
theorem dX1_night_8 : decode cX1_night 8 = .ok (.if_icmp .gt 7, 3) := dk_163 0 7 (dk_at dksX1_night_0 8 rfl rfl)
theorem dX1_night_11 : decode cX1_night 11 = .ok (.iconst 1, 1) := dk_4 (dk_at dksX1_night_0 11 rfl rfl)
theorem dX1_night_12 : decode cX1_night 12 = .ok (.goto 4, 3) := dk_167 0 4 (dk_at dksX1_night_0 12 rfl rfl)
theorem dX1_night_15 : decode cX1_night 15 = .ok (.iconst 0, 1) := dk_3 (dk_at dksX1_night_0 15 rfl rfl)
theorem dX1_night_16 : decode cX1_night 16 = .ok (.putfield 78, 3) := dk_181 0 78 (dk_at dksX1_night_0 16 rfl rfl)
theorem dX1_night_19 : decode cX1_night 19 = .ok (.iconst 0, 1) := dk_3 (dk_at dksX1_night_0 19 rfl rfl)
theorem dX1_night_20 : decode cX1_night 20 = .ok (.istore_n 2, 1) := dk_61 (dk_at dksX1_night_0 20 rfl rfl)
theorem dX1_night_21 : decode cX1_night 21 = .ok (.aload_n 0, 1) := dk_42 (dk_at dksX1_night_0 21 rfl rfl)
theorem dX1_night_22 : decode cX1_night 22 = .ok (.getfield 41, 3) := dk_180 0 41 (dk_at dksX1_night_1 0 rfl rfl)
theorem dX1_night_25 : decode cX1_night 25 = .ok (.invokeinterface 49 1, 5) := by decide +kernel
theorem dX1_night_30 : decode cX1_night 30 = .ok (.astore_n 3, 1) := dk_78 (dk_at dksX1_night_1 8 rfl rfl)
theorem dX1_night_31 : decode cX1_night 31 = .ok (.aload_n 3, 1) := dk_45 (dk_at dksX1_night_1 9 rfl rfl)
theorem dX1_night_32 : decode cX1_night 32 = .ok (.invokeinterface 55 1, 5) := by decide +kernel
theorem dX1_night_37 : decode cX1_night 37 = .ok (.ifCond .eq 97, 3) := dk_153 0 97 (dk_at dksX1_night_1 15 rfl rfl)
theorem dX1_night_40 : decode cX1_night 40 = .ok (.aload_n 3, 1) := dk_45 (dk_at dksX1_night_1 18 rfl rfl)
theorem dX1_night_41 : decode cX1_night 41 = .ok (.invokeinterface 61 1, 5) := by decide +kernel
theorem dX1_night_46 : decode cX1_night 46 = .ok (.checkcast 64, 3) := dk_192 0 64 (dk_at dksX1_night_2 0 rfl rfl)
theorem dX1_night_49 : decode cX1_night 49 = .ok (.astore 4, 2) := dk_58 4 (dk_at dksX1_night_2 3 rfl rfl)
theorem dX1_night_51 : decode cX1_night 51 = .ok (.aload_n 0, 1) := dk_42 (dk_at dksX1_night_2 5 rfl rfl)
theorem dX1_night_52 : decode cX1_night 52 = .ok (.getfield 78, 3) := dk_180 0 78 (dk_at dksX1_night_2 6 rfl rfl)
theorem dX1_night_55 : decode cX1_night 55 = .ok (.ifCond .eq 16, 3) := dk_153 0 16 (dk_at dksX1_night_2 9 rfl rfl)
theorem dX1_night_58 : decode cX1_night 58 = .ok (.aload_n 0, 1) := dk_42 (dk_at dksX1_night_2 12 rfl rfl)
theorem dX1_night_59 : decode cX1_night 59 = .ok (.aload 4, 2) := dk_25 4 (dk_at dksX1_night_2 13 rfl rfl)
theorem dX1_night_61 : decode cX1_night 61 = .ok (.invokevirtual 208, 3) := dk_182 0 208 (dk_at dksX1_night_2 15 rfl rfl)
theorem dX1_night_64 : decode cX1_night 64 = .ok (.ifCond .eq 7, 3) := dk_153 0 7 (dk_at dksX1_night_2 18 rfl rfl)
theorem dX1_night_67 : decode cX1_night 67 = .ok (.iconst 1, 1) := dk_4 (dk_at dksX1_night_2 21 rfl rfl)
theorem dX1_night_68 : decode cX1_night 68 = .ok (.goto 4, 3) := dk_167 0 4 (dk_at dksX1_night_3 0 rfl rfl)
theorem dX1_night_71 : decode cX1_night 71 = .ok (.iconst 0, 1) := dk_3 (dk_at dksX1_night_3 3 rfl rfl)
theorem dX1_night_72 : decode cX1_night 72 = .ok (.istore 5, 2) := dk_54 5 (dk_at dksX1_night_3 4 rfl rfl)
theorem dX1_night_74 : decode cX1_night 74 = .ok (.aload 4, 2) := dk_25 4 (dk_at dksX1_night_3 6 rfl rfl)
theorem dX1_night_76 : decode cX1_night 76 = .ok (.dup, 1) := dk_89 (dk_at dksX1_night_3 8 rfl rfl)
theorem dX1_night_77 : decode cX1_night 77 = .ok (.getfield 145, 3) := dk_180 0 145 (dk_at dksX1_night_3 9 rfl rfl)
theorem dX1_night_80 : decode cX1_night 80 = .ok (.iload 5, 2) := dk_21 5 (dk_at dksX1_night_3 12 rfl rfl)
theorem dX1_night_82 : decode cX1_night 82 = .ok (.ior, 1) := dk_128 (dk_at dksX1_night_3 14 rfl rfl)
theorem dX1_night_83 : decode cX1_night 83 = .ok (.putfield 145, 3) := dk_181 0 145 (dk_at dksX1_night_3 15 rfl rfl)
theorem dX1_night_86 : decode cX1_night 86 = .ok (.iload_n 2, 1) := dk_28 (dk_at dksX1_night_3 18 rfl rfl)
theorem dX1_night_87 : decode cX1_night 87 = .ok (.iload 5, 2) := dk_21 5 (dk_at dksX1_night_3 19 rfl rfl)
theorem dX1_night_89 : decode cX1_night 89 = .ok (.ifCond .eq 7, 3) := dk_153 0 7 (dk_at dksX1_night_3 21 rfl rfl)
theorem dX1_night_92 : decode cX1_night 92 = .ok (.iconst 1, 1) := dk_4 (dk_at dksX1_night_4 0 rfl rfl)
theorem dX1_night_93 : decode cX1_night 93 = .ok (.goto 4, 3) := dk_167 0 4 (dk_at dksX1_night_4 1 rfl rfl)
theorem dX1_night_96 : decode cX1_night 96 = .ok (.iconst 0, 1) := dk_3 (dk_at dksX1_night_4 4 rfl rfl)
theorem dX1_night_97 : decode cX1_night 97 = .ok (.iadd, 1) := dk_96 (dk_at dksX1_night_4 5 rfl rfl)
theorem dX1_night_98 : decode cX1_night 98 = .ok (.istore_n 2, 1) := dk_61 (dk_at dksX1_night_4 6 rfl rfl)
theorem dX1_night_99 : decode cX1_night 99 = .ok (.aload 4, 2) := dk_25 4 (dk_at dksX1_night_4 7 rfl rfl)
theorem dX1_night_101 : decode cX1_night 101 = .ok (.aload 4, 2) := dk_25 4 (dk_at dksX1_night_4 9 rfl rfl)
theorem dX1_night_103 : decode cX1_night 103 = .ok (.invokevirtual 155, 3) := dk_182 0 155 (dk_at dksX1_night_4 11 rfl rfl)
theorem dX1_night_106 : decode cX1_night 106 = .ok (.ifCond .eq 17, 3) := dk_153 0 17 (dk_at dksX1_night_4 14 rfl rfl)
theorem dX1_night_109 : decode cX1_night 109 = .ok (.iconst 0, 1) := dk_3 (dk_at dksX1_night_4 17 rfl rfl)
theorem dX1_night_110 : decode cX1_night 110 = .ok (.aload 4, 2) := dk_25 4 (dk_at dksX1_night_4 18 rfl rfl)
theorem dX1_night_112 : decode cX1_night 112 = .ok (.getfield 136, 3) := dk_180 0 136 (dk_at dksX1_night_4 20 rfl rfl)
theorem dX1_night_115 : decode cX1_night 115 = .ok (.iconst 1, 1) := dk_4 (dk_at dksX1_night_4 23 rfl rfl)
theorem dX1_night_116 : decode cX1_night 116 = .ok (.isub, 1) := dk_100 (dk_at dksX1_night_5 0 rfl rfl)
theorem dX1_night_117 : decode cX1_night 117 = .ok (.invokestatic 212, 3) := dk_184 0 212 (dk_at dksX1_night_5 1 rfl rfl)
theorem dX1_night_120 : decode cX1_night 120 = .ok (.goto 8, 3) := dk_167 0 8 (dk_at dksX1_night_5 4 rfl rfl)
theorem dX1_night_123 : decode cX1_night 123 = .ok (.aload 4, 2) := dk_25 4 (dk_at dksX1_night_5 7 rfl rfl)
theorem dX1_night_125 : decode cX1_night 125 = .ok (.getfield 136, 3) := dk_180 0 136 (dk_at dksX1_night_5 9 rfl rfl)
theorem dX1_night_128 : decode cX1_night 128 = .ok (.putfield 136, 3) := dk_181 0 136 (dk_at dksX1_night_5 12 rfl rfl)
theorem dX1_night_131 : decode cX1_night 131 = .ok (.goto (-100), 3) := dk_167 255 156 (dk_at dksX1_night_5 15 rfl rfl)
theorem dX1_night_134 : decode cX1_night 134 = .ok (.aload_n 0, 1) := dk_42 (dk_at dksX1_night_5 18 rfl rfl)
theorem dX1_night_135 : decode cX1_night 135 = .ok (.dup, 1) := dk_89 (dk_at dksX1_night_5 19 rfl rfl)
theorem dX1_night_136 : decode cX1_night 136 = .ok (.getfield 82, 3) := dk_180 0 82 (dk_at dksX1_night_5 20 rfl rfl)
theorem dX1_night_139 : decode cX1_night 139 = .ok (.iconst 1, 1) := dk_4 (dk_at dksX1_night_5 23 rfl rfl)
theorem dX1_night_140 : decode cX1_night 140 = .ok (.iadd, 1) := dk_96 (dk_at dksX1_night_6 0 rfl rfl)
theorem dX1_night_141 : decode cX1_night 141 = .ok (.putfield 82, 3) := dk_181 0 82 (dk_at dksX1_night_6 1 rfl rfl)
theorem dX1_night_144 : decode cX1_night 144 = .ok (.iload_n 2, 1) := dk_28 (dk_at dksX1_night_6 4 rfl rfl)
theorem dX1_night_145 : decode cX1_night 145 = .ok (.ireturn, 1) := dk_172 (dk_at dksX1_night_6 5 rfl rfl)
abbrev cX1_isCracking : ByteArray := prog_4_method_21_code
def yX1_isCracking : MethodName := ⟨RX1, "isCracking", "(LQuarryOrders$Block;)Z"⟩
def dkwX1_isCracking_1 : List UInt8 := [167, 0, 4, 3, 172]
abbrev dktX1_isCracking_1 : List UInt8 := dkwX1_isCracking_1 ++ []
def dkwX1_isCracking_0 : List UInt8 := [43, 180, 0, 98, 154, 0, 21, 43, 180, 0, 136, 158, 0, 14, 43, 180, 0, 145, 154, 0, 7, 4]
abbrev dktX1_isCracking_0 : List UInt8 := dkwX1_isCracking_0 ++ dktX1_isCracking_1
theorem dksX1_isCracking_0 : cX1_isCracking.data.toList.drop 0 = dktX1_isCracking_0 := by decide +kernel
theorem dksX1_isCracking_1 : cX1_isCracking.data.toList.drop 22 = dktX1_isCracking_1 := dk_seg dksX1_isCracking_0 22 rfl rfl
theorem dX1_isCracking_0 : decode cX1_isCracking 0 = .ok (.aload_n 1, 1) := dk_43 (dk_at dksX1_isCracking_0 0 rfl rfl)
theorem dX1_isCracking_1 : decode cX1_isCracking 1 = .ok (.getfield 98, 3) := dk_180 0 98 (dk_at dksX1_isCracking_0 1 rfl rfl)
theorem dX1_isCracking_4 : decode cX1_isCracking 4 = .ok (.ifCond .ne 21, 3) := dk_154 0 21 (dk_at dksX1_isCracking_0 4 rfl rfl)
theorem dX1_isCracking_7 : decode cX1_isCracking 7 = .ok (.aload_n 1, 1) := dk_43 (dk_at dksX1_isCracking_0 7 rfl rfl)
theorem dX1_isCracking_8 : decode cX1_isCracking 8 = .ok (.getfield 136, 3) := dk_180 0 136 (dk_at dksX1_isCracking_0 8 rfl rfl)
theorem dX1_isCracking_11 : decode cX1_isCracking 11 = .ok (.ifCond .le 14, 3) := dk_158 0 14 (dk_at dksX1_isCracking_0 11 rfl rfl)
theorem dX1_isCracking_14 : decode cX1_isCracking 14 = .ok (.aload_n 1, 1) := dk_43 (dk_at dksX1_isCracking_0 14 rfl rfl)
theorem dX1_isCracking_15 : decode cX1_isCracking 15 = .ok (.getfield 145, 3) := dk_180 0 145 (dk_at dksX1_isCracking_0 15 rfl rfl)
theorem dX1_isCracking_18 : decode cX1_isCracking 18 = .ok (.ifCond .ne 7, 3) := dk_154 0 7 (dk_at dksX1_isCracking_0 18 rfl rfl)
theorem dX1_isCracking_21 : decode cX1_isCracking 21 = .ok (.iconst 1, 1) := dk_4 (dk_at dksX1_isCracking_0 21 rfl rfl)
theorem dX1_isCracking_22 : decode cX1_isCracking 22 = .ok (.goto 4, 3) := dk_167 0 4 (dk_at dksX1_isCracking_1 0 rfl rfl)
theorem dX1_isCracking_25 : decode cX1_isCracking 25 = .ok (.iconst 0, 1) := dk_3 (dk_at dksX1_isCracking_1 3 rfl rfl)
theorem dX1_isCracking_26 : decode cX1_isCracking 26 = .ok (.ireturn, 1) := dk_172 (dk_at dksX1_isCracking_1 4 rfl rfl)
abbrev cX1_fitting : ByteArray := prog_4_method_11_code
def yX1_fitting : MethodName := ⟨RX1, "fitting", "(LQuarryOrders$Order;)I"⟩
def dkwX1_fitting_2 : List UInt8 := [182, 0, 169, 155, 0, 13, 4, 25, 4, 180, 0, 101, 120, 167, 0, 4, 3, 128, 61, 167, 255, 205, 28, 172]
abbrev dktX1_fitting_2 : List UInt8 := dkwX1_fitting_2 ++ []
def dkwX1_fitting_1 : List UInt8 := [185, 0, 61, 1, 0, 192, 0, 64, 58, 4, 28, 43, 180, 0, 166, 154, 0, 23, 42, 43, 25, 4]
abbrev dktX1_fitting_1 : List UInt8 := dkwX1_fitting_1 ++ dktX1_fitting_2
def dkwX1_fitting_0 : List UInt8 := [3, 61, 42, 180, 0, 41, 185, 0, 49, 1, 0, 78, 45, 185, 0, 55, 1, 0, 153, 0, 48, 45]
abbrev dktX1_fitting_0 : List UInt8 := dkwX1_fitting_0 ++ dktX1_fitting_1
theorem dksX1_fitting_0 : cX1_fitting.data.toList.drop 0 = dktX1_fitting_0 := by decide +kernel
theorem dksX1_fitting_1 : cX1_fitting.data.toList.drop 22 = dktX1_fitting_1 := dk_seg dksX1_fitting_0 22 rfl rfl
theorem dksX1_fitting_2 : cX1_fitting.data.toList.drop 44 = dktX1_fitting_2 := dk_seg dksX1_fitting_1 22 rfl rfl
theorem dX1_fitting_0 : decode cX1_fitting 0 = .ok (.iconst 0, 1) := dk_3 (dk_at dksX1_fitting_0 0 rfl rfl)
theorem dX1_fitting_1 : decode cX1_fitting 1 = .ok (.istore_n 2, 1) := dk_61 (dk_at dksX1_fitting_0 1 rfl rfl)
theorem dX1_fitting_2 : decode cX1_fitting 2 = .ok (.aload_n 0, 1) := dk_42 (dk_at dksX1_fitting_0 2 rfl rfl)
theorem dX1_fitting_3 : decode cX1_fitting 3 = .ok (.getfield 41, 3) := dk_180 0 41 (dk_at dksX1_fitting_0 3 rfl rfl)
theorem dX1_fitting_6 : decode cX1_fitting 6 = .ok (.invokeinterface 49 1, 5) := by decide +kernel
theorem dX1_fitting_11 : decode cX1_fitting 11 = .ok (.astore_n 3, 1) := dk_78 (dk_at dksX1_fitting_0 11 rfl rfl)
theorem dX1_fitting_12 : decode cX1_fitting 12 = .ok (.aload_n 3, 1) := dk_45 (dk_at dksX1_fitting_0 12 rfl rfl)
theorem dX1_fitting_13 : decode cX1_fitting 13 = .ok (.invokeinterface 55 1, 5) := by decide +kernel
theorem dX1_fitting_18 : decode cX1_fitting 18 = .ok (.ifCond .eq 48, 3) := dk_153 0 48 (dk_at dksX1_fitting_0 18 rfl rfl)
theorem dX1_fitting_21 : decode cX1_fitting 21 = .ok (.aload_n 3, 1) := dk_45 (dk_at dksX1_fitting_0 21 rfl rfl)
theorem dX1_fitting_22 : decode cX1_fitting 22 = .ok (.invokeinterface 61 1, 5) := by decide +kernel
theorem dX1_fitting_27 : decode cX1_fitting 27 = .ok (.checkcast 64, 3) := dk_192 0 64 (dk_at dksX1_fitting_1 5 rfl rfl)
theorem dX1_fitting_30 : decode cX1_fitting 30 = .ok (.astore 4, 2) := dk_58 4 (dk_at dksX1_fitting_1 8 rfl rfl)
theorem dX1_fitting_32 : decode cX1_fitting 32 = .ok (.iload_n 2, 1) := dk_28 (dk_at dksX1_fitting_1 10 rfl rfl)
theorem dX1_fitting_33 : decode cX1_fitting 33 = .ok (.aload_n 1, 1) := dk_43 (dk_at dksX1_fitting_1 11 rfl rfl)
theorem dX1_fitting_34 : decode cX1_fitting 34 = .ok (.getfield 166, 3) := dk_180 0 166 (dk_at dksX1_fitting_1 12 rfl rfl)
theorem dX1_fitting_37 : decode cX1_fitting 37 = .ok (.ifCond .ne 23, 3) := dk_154 0 23 (dk_at dksX1_fitting_1 15 rfl rfl)
theorem dX1_fitting_40 : decode cX1_fitting 40 = .ok (.aload_n 0, 1) := dk_42 (dk_at dksX1_fitting_1 18 rfl rfl)
theorem dX1_fitting_41 : decode cX1_fitting 41 = .ok (.aload_n 1, 1) := dk_43 (dk_at dksX1_fitting_1 19 rfl rfl)
theorem dX1_fitting_42 : decode cX1_fitting 42 = .ok (.aload 4, 2) := dk_25 4 (dk_at dksX1_fitting_1 20 rfl rfl)
theorem dX1_fitting_44 : decode cX1_fitting 44 = .ok (.invokevirtual 169, 3) := dk_182 0 169 (dk_at dksX1_fitting_2 0 rfl rfl)
theorem dX1_fitting_47 : decode cX1_fitting 47 = .ok (.ifCond .lt 13, 3) := dk_155 0 13 (dk_at dksX1_fitting_2 3 rfl rfl)
theorem dX1_fitting_50 : decode cX1_fitting 50 = .ok (.iconst 1, 1) := dk_4 (dk_at dksX1_fitting_2 6 rfl rfl)
theorem dX1_fitting_51 : decode cX1_fitting 51 = .ok (.aload 4, 2) := dk_25 4 (dk_at dksX1_fitting_2 7 rfl rfl)
theorem dX1_fitting_53 : decode cX1_fitting 53 = .ok (.getfield 101, 3) := dk_180 0 101 (dk_at dksX1_fitting_2 9 rfl rfl)
theorem dX1_fitting_56 : decode cX1_fitting 56 = .ok (.ishl, 1) := dk_120 (dk_at dksX1_fitting_2 12 rfl rfl)
theorem dX1_fitting_57 : decode cX1_fitting 57 = .ok (.goto 4, 3) := dk_167 0 4 (dk_at dksX1_fitting_2 13 rfl rfl)
theorem dX1_fitting_60 : decode cX1_fitting 60 = .ok (.iconst 0, 1) := dk_3 (dk_at dksX1_fitting_2 16 rfl rfl)
theorem dX1_fitting_61 : decode cX1_fitting 61 = .ok (.ior, 1) := dk_128 (dk_at dksX1_fitting_2 17 rfl rfl)
theorem dX1_fitting_62 : decode cX1_fitting 62 = .ok (.istore_n 2, 1) := dk_61 (dk_at dksX1_fitting_2 18 rfl rfl)
theorem dX1_fitting_63 : decode cX1_fitting 63 = .ok (.goto (-51), 3) := dk_167 255 205 (dk_at dksX1_fitting_2 19 rfl rfl)
theorem dX1_fitting_66 : decode cX1_fitting 66 = .ok (.iload_n 2, 1) := dk_28 (dk_at dksX1_fitting_2 22 rfl rfl)
theorem dX1_fitting_67 : decode cX1_fitting 67 = .ok (.ireturn, 1) := dk_172 (dk_at dksX1_fitting_2 23 rfl rfl)
abbrev cX1_cracked : ByteArray := prog_4_method_23_code
def yX1_cracked : MethodName := ⟨RX1, "cracked", "()I"⟩
def dkwX1_cracked_2 : List UInt8 := [159, 0, 12, 4, 45, 180, 0, 101, 120, 167, 0, 4, 3, 128, 60, 167, 255, 209, 27, 172]
abbrev dktX1_cracked_2 : List UInt8 := dkwX1_cracked_2 ++ []
def dkwX1_cracked_1 : List UInt8 := [185, 0, 61, 1, 0, 192, 0, 64, 78, 27, 45, 180, 0, 145, 153, 0, 20, 45, 180, 0, 98, 7]
abbrev dktX1_cracked_1 : List UInt8 := dkwX1_cracked_1 ++ dktX1_cracked_2
def dkwX1_cracked_0 : List UInt8 := [3, 60, 42, 180, 0, 41, 185, 0, 49, 1, 0, 77, 44, 185, 0, 55, 1, 0, 153, 0, 44, 44]
abbrev dktX1_cracked_0 : List UInt8 := dkwX1_cracked_0 ++ dktX1_cracked_1
theorem dksX1_cracked_0 : cX1_cracked.data.toList.drop 0 = dktX1_cracked_0 := by decide +kernel
theorem dksX1_cracked_1 : cX1_cracked.data.toList.drop 22 = dktX1_cracked_1 := dk_seg dksX1_cracked_0 22 rfl rfl
theorem dksX1_cracked_2 : cX1_cracked.data.toList.drop 44 = dktX1_cracked_2 := dk_seg dksX1_cracked_1 22 rfl rfl
theorem dX1_cracked_0 : decode cX1_cracked 0 = .ok (.iconst 0, 1) := dk_3 (dk_at dksX1_cracked_0 0 rfl rfl)
theorem dX1_cracked_1 : decode cX1_cracked 1 = .ok (.istore_n 1, 1) := dk_60 (dk_at dksX1_cracked_0 1 rfl rfl)
theorem dX1_cracked_2 : decode cX1_cracked 2 = .ok (.aload_n 0, 1) := dk_42 (dk_at dksX1_cracked_0 2 rfl rfl)
theorem dX1_cracked_3 : decode cX1_cracked 3 = .ok (.getfield 41, 3) := dk_180 0 41 (dk_at dksX1_cracked_0 3 rfl rfl)
theorem dX1_cracked_6 : decode cX1_cracked 6 = .ok (.invokeinterface 49 1, 5) := by decide +kernel
theorem dX1_cracked_11 : decode cX1_cracked 11 = .ok (.astore_n 2, 1) := dk_77 (dk_at dksX1_cracked_0 11 rfl rfl)
theorem dX1_cracked_12 : decode cX1_cracked 12 = .ok (.aload_n 2, 1) := dk_44 (dk_at dksX1_cracked_0 12 rfl rfl)
theorem dX1_cracked_13 : decode cX1_cracked 13 = .ok (.invokeinterface 55 1, 5) := by decide +kernel
theorem dX1_cracked_18 : decode cX1_cracked 18 = .ok (.ifCond .eq 44, 3) := dk_153 0 44 (dk_at dksX1_cracked_0 18 rfl rfl)
theorem dX1_cracked_21 : decode cX1_cracked 21 = .ok (.aload_n 2, 1) := dk_44 (dk_at dksX1_cracked_0 21 rfl rfl)
theorem dX1_cracked_22 : decode cX1_cracked 22 = .ok (.invokeinterface 61 1, 5) := by decide +kernel
theorem dX1_cracked_27 : decode cX1_cracked 27 = .ok (.checkcast 64, 3) := dk_192 0 64 (dk_at dksX1_cracked_1 5 rfl rfl)
theorem dX1_cracked_30 : decode cX1_cracked 30 = .ok (.astore_n 3, 1) := dk_78 (dk_at dksX1_cracked_1 8 rfl rfl)
theorem dX1_cracked_31 : decode cX1_cracked 31 = .ok (.iload_n 1, 1) := dk_27 (dk_at dksX1_cracked_1 9 rfl rfl)
theorem dX1_cracked_32 : decode cX1_cracked 32 = .ok (.aload_n 3, 1) := dk_45 (dk_at dksX1_cracked_1 10 rfl rfl)
theorem dX1_cracked_33 : decode cX1_cracked 33 = .ok (.getfield 145, 3) := dk_180 0 145 (dk_at dksX1_cracked_1 11 rfl rfl)
theorem dX1_cracked_36 : decode cX1_cracked 36 = .ok (.ifCond .eq 20, 3) := dk_153 0 20 (dk_at dksX1_cracked_1 14 rfl rfl)
theorem dX1_cracked_39 : decode cX1_cracked 39 = .ok (.aload_n 3, 1) := dk_45 (dk_at dksX1_cracked_1 17 rfl rfl)
theorem dX1_cracked_40 : decode cX1_cracked 40 = .ok (.getfield 98, 3) := dk_180 0 98 (dk_at dksX1_cracked_1 18 rfl rfl)
theorem dX1_cracked_43 : decode cX1_cracked 43 = .ok (.iconst 4, 1) := dk_7 (dk_at dksX1_cracked_1 21 rfl rfl)
theorem dX1_cracked_44 : decode cX1_cracked 44 = .ok (.if_icmp .eq 12, 3) := dk_159 0 12 (dk_at dksX1_cracked_2 0 rfl rfl)
theorem dX1_cracked_47 : decode cX1_cracked 47 = .ok (.iconst 1, 1) := dk_4 (dk_at dksX1_cracked_2 3 rfl rfl)
theorem dX1_cracked_48 : decode cX1_cracked 48 = .ok (.aload_n 3, 1) := dk_45 (dk_at dksX1_cracked_2 4 rfl rfl)
theorem dX1_cracked_49 : decode cX1_cracked 49 = .ok (.getfield 101, 3) := dk_180 0 101 (dk_at dksX1_cracked_2 5 rfl rfl)
theorem dX1_cracked_52 : decode cX1_cracked 52 = .ok (.ishl, 1) := dk_120 (dk_at dksX1_cracked_2 8 rfl rfl)
theorem dX1_cracked_53 : decode cX1_cracked 53 = .ok (.goto 4, 3) := dk_167 0 4 (dk_at dksX1_cracked_2 9 rfl rfl)
theorem dX1_cracked_56 : decode cX1_cracked 56 = .ok (.iconst 0, 1) := dk_3 (dk_at dksX1_cracked_2 12 rfl rfl)
theorem dX1_cracked_57 : decode cX1_cracked 57 = .ok (.ior, 1) := dk_128 (dk_at dksX1_cracked_2 13 rfl rfl)
theorem dX1_cracked_58 : decode cX1_cracked 58 = .ok (.istore_n 1, 1) := dk_60 (dk_at dksX1_cracked_2 14 rfl rfl)
theorem dX1_cracked_59 : decode cX1_cracked 59 = .ok (.goto (-47), 3) := dk_167 255 209 (dk_at dksX1_cracked_2 15 rfl rfl)
theorem dX1_cracked_62 : decode cX1_cracked 62 = .ok (.iload_n 1, 1) := dk_27 (dk_at dksX1_cracked_2 18 rfl rfl)
theorem dX1_cracked_63 : decode cX1_cracked 63 = .ok (.ireturn, 1) := dk_172 (dk_at dksX1_cracked_2 19 rfl rfl)
abbrev cX1_uncut : ByteArray := prog_4_method_24_code
def yX1_uncut : MethodName := ⟨RX1, "uncut", "(Z)I"⟩
def dkwX1_uncut_2 : List UInt8 := [27, 153, 0, 11, 25, 4, 182, 0, 120, 167, 0, 4, 4, 96, 61, 167, 255, 207, 28, 172]
abbrev dktX1_uncut_2 : List UInt8 := dkwX1_uncut_2 ++ []
def dkwX1_uncut_1 : List UInt8 := [185, 0, 61, 1, 0, 192, 0, 64, 58, 4, 28, 25, 4, 180, 0, 98, 7, 160, 0, 7, 3, 167, 0, 16]
abbrev dktX1_uncut_1 : List UInt8 := dkwX1_uncut_1 ++ dktX1_uncut_2
def dkwX1_uncut_0 : List UInt8 := [3, 61, 42, 180, 0, 41, 185, 0, 49, 1, 0, 78, 45, 185, 0, 55, 1, 0, 153, 0, 46, 45]
abbrev dktX1_uncut_0 : List UInt8 := dkwX1_uncut_0 ++ dktX1_uncut_1
theorem dksX1_uncut_0 : cX1_uncut.data.toList.drop 0 = dktX1_uncut_0 := by decide +kernel
theorem dksX1_uncut_1 : cX1_uncut.data.toList.drop 22 = dktX1_uncut_1 := dk_seg dksX1_uncut_0 22 rfl rfl
theorem dksX1_uncut_2 : cX1_uncut.data.toList.drop 46 = dktX1_uncut_2 := dk_seg dksX1_uncut_1 24 rfl rfl
theorem dX1_uncut_0 : decode cX1_uncut 0 = .ok (.iconst 0, 1) := dk_3 (dk_at dksX1_uncut_0 0 rfl rfl)
theorem dX1_uncut_1 : decode cX1_uncut 1 = .ok (.istore_n 2, 1) := dk_61 (dk_at dksX1_uncut_0 1 rfl rfl)
theorem dX1_uncut_2 : decode cX1_uncut 2 = .ok (.aload_n 0, 1) := dk_42 (dk_at dksX1_uncut_0 2 rfl rfl)
theorem dX1_uncut_3 : decode cX1_uncut 3 = .ok (.getfield 41, 3) := dk_180 0 41 (dk_at dksX1_uncut_0 3 rfl rfl)
theorem dX1_uncut_6 : decode cX1_uncut 6 = .ok (.invokeinterface 49 1, 5) := by decide +kernel
theorem dX1_uncut_11 : decode cX1_uncut 11 = .ok (.astore_n 3, 1) := dk_78 (dk_at dksX1_uncut_0 11 rfl rfl)
theorem dX1_uncut_12 : decode cX1_uncut 12 = .ok (.aload_n 3, 1) := dk_45 (dk_at dksX1_uncut_0 12 rfl rfl)
theorem dX1_uncut_13 : decode cX1_uncut 13 = .ok (.invokeinterface 55 1, 5) := by decide +kernel
theorem dX1_uncut_18 : decode cX1_uncut 18 = .ok (.ifCond .eq 46, 3) := dk_153 0 46 (dk_at dksX1_uncut_0 18 rfl rfl)
theorem dX1_uncut_21 : decode cX1_uncut 21 = .ok (.aload_n 3, 1) := dk_45 (dk_at dksX1_uncut_0 21 rfl rfl)
theorem dX1_uncut_22 : decode cX1_uncut 22 = .ok (.invokeinterface 61 1, 5) := by decide +kernel
theorem dX1_uncut_27 : decode cX1_uncut 27 = .ok (.checkcast 64, 3) := dk_192 0 64 (dk_at dksX1_uncut_1 5 rfl rfl)
theorem dX1_uncut_30 : decode cX1_uncut 30 = .ok (.astore 4, 2) := dk_58 4 (dk_at dksX1_uncut_1 8 rfl rfl)
theorem dX1_uncut_32 : decode cX1_uncut 32 = .ok (.iload_n 2, 1) := dk_28 (dk_at dksX1_uncut_1 10 rfl rfl)
theorem dX1_uncut_33 : decode cX1_uncut 33 = .ok (.aload 4, 2) := dk_25 4 (dk_at dksX1_uncut_1 11 rfl rfl)
theorem dX1_uncut_35 : decode cX1_uncut 35 = .ok (.getfield 98, 3) := dk_180 0 98 (dk_at dksX1_uncut_1 13 rfl rfl)
theorem dX1_uncut_38 : decode cX1_uncut 38 = .ok (.iconst 4, 1) := dk_7 (dk_at dksX1_uncut_1 16 rfl rfl)
theorem dX1_uncut_39 : decode cX1_uncut 39 = .ok (.if_icmp .ne 7, 3) := dk_160 0 7 (dk_at dksX1_uncut_1 17 rfl rfl)
theorem dX1_uncut_42 : decode cX1_uncut 42 = .ok (.iconst 0, 1) := dk_3 (dk_at dksX1_uncut_1 20 rfl rfl)
theorem dX1_uncut_43 : decode cX1_uncut 43 = .ok (.goto 16, 3) := dk_167 0 16 (dk_at dksX1_uncut_1 21 rfl rfl)
theorem dX1_uncut_46 : decode cX1_uncut 46 = .ok (.iload_n 1, 1) := dk_27 (dk_at dksX1_uncut_2 0 rfl rfl)
theorem dX1_uncut_47 : decode cX1_uncut 47 = .ok (.ifCond .eq 11, 3) := dk_153 0 11 (dk_at dksX1_uncut_2 1 rfl rfl)
theorem dX1_uncut_50 : decode cX1_uncut 50 = .ok (.aload 4, 2) := dk_25 4 (dk_at dksX1_uncut_2 4 rfl rfl)
theorem dX1_uncut_52 : decode cX1_uncut 52 = .ok (.invokevirtual 120, 3) := dk_182 0 120 (dk_at dksX1_uncut_2 6 rfl rfl)
theorem dX1_uncut_55 : decode cX1_uncut 55 = .ok (.goto 4, 3) := dk_167 0 4 (dk_at dksX1_uncut_2 9 rfl rfl)
theorem dX1_uncut_58 : decode cX1_uncut 58 = .ok (.iconst 1, 1) := dk_4 (dk_at dksX1_uncut_2 12 rfl rfl)
theorem dX1_uncut_59 : decode cX1_uncut 59 = .ok (.iadd, 1) := dk_96 (dk_at dksX1_uncut_2 13 rfl rfl)
theorem dX1_uncut_60 : decode cX1_uncut 60 = .ok (.istore_n 2, 1) := dk_61 (dk_at dksX1_uncut_2 14 rfl rfl)
theorem dX1_uncut_61 : decode cX1_uncut 61 = .ok (.goto (-49), 3) := dk_167 255 207 (dk_at dksX1_uncut_2 15 rfl rfl)
theorem dX1_uncut_64 : decode cX1_uncut 64 = .ok (.iload_n 2, 1) := dk_28 (dk_at dksX1_uncut_2 18 rfl rfl)
theorem dX1_uncut_65 : decode cX1_uncut 65 = .ok (.ireturn, 1) := dk_172 (dk_at dksX1_uncut_2 19 rfl rfl)
abbrev cX1_bestBlock : ByteArray := prog_4_method_12_code
def yX1_bestBlock : MethodName := ⟨RX1, "bestBlock", "(LQuarryOrders$Order;)I"⟩
def dkwX1_bestBlock_4 : List UInt8 := [62, 167, 255, 176, 28, 172]
abbrev dktX1_bestBlock_4 : List UInt8 := dkwX1_bestBlock_4 ++ []
def dkwX1_bestBlock_3 : List UInt8 := [153, 0, 11, 25, 5, 180, 0, 101, 167, 0, 4, 28, 61, 21, 7, 153, 0, 8, 21, 6, 167, 0, 4, 29]
abbrev dktX1_bestBlock_3 : List UInt8 := dkwX1_bestBlock_3 ++ dktX1_bestBlock_4
def dkwX1_bestBlock_2 : List UInt8 := [21, 6, 155, 0, 17, 28, 155, 0, 9, 21, 6, 29, 162, 0, 7, 4, 167, 0, 4, 3, 54, 7, 21, 7]
abbrev dktX1_bestBlock_2 : List UInt8 := dkwX1_bestBlock_2 ++ dktX1_bestBlock_3
def dkwX1_bestBlock_1 : List UInt8 := [153, 0, 76, 25, 4, 185, 0, 61, 1, 0, 192, 0, 64, 58, 5, 42, 43, 25, 5, 182, 0, 169, 54, 6]
abbrev dktX1_bestBlock_1 : List UInt8 := dkwX1_bestBlock_1 ++ dktX1_bestBlock_2
def dkwX1_bestBlock_0 : List UInt8 := [16, 250, 61, 3, 62, 42, 180, 0, 41, 185, 0, 49, 1, 0, 58, 4, 25, 4, 185, 0, 55, 1, 0]
abbrev dktX1_bestBlock_0 : List UInt8 := dkwX1_bestBlock_0 ++ dktX1_bestBlock_1
theorem dksX1_bestBlock_0 : cX1_bestBlock.data.toList.drop 0 = dktX1_bestBlock_0 := by decide +kernel
theorem dksX1_bestBlock_1 : cX1_bestBlock.data.toList.drop 23 = dktX1_bestBlock_1 := dk_seg dksX1_bestBlock_0 23 rfl rfl
theorem dksX1_bestBlock_2 : cX1_bestBlock.data.toList.drop 47 = dktX1_bestBlock_2 := dk_seg dksX1_bestBlock_1 24 rfl rfl
theorem dksX1_bestBlock_3 : cX1_bestBlock.data.toList.drop 71 = dktX1_bestBlock_3 := dk_seg dksX1_bestBlock_2 24 rfl rfl
theorem dksX1_bestBlock_4 : cX1_bestBlock.data.toList.drop 95 = dktX1_bestBlock_4 := dk_seg dksX1_bestBlock_3 24 rfl rfl
theorem dX1_bestBlock_0 : decode cX1_bestBlock 0 = .ok (.bipush (-6), 2) := dk_16 250 (dk_at dksX1_bestBlock_0 0 rfl rfl)
theorem dX1_bestBlock_2 : decode cX1_bestBlock 2 = .ok (.istore_n 2, 1) := dk_61 (dk_at dksX1_bestBlock_0 2 rfl rfl)
theorem dX1_bestBlock_3 : decode cX1_bestBlock 3 = .ok (.iconst 0, 1) := dk_3 (dk_at dksX1_bestBlock_0 3 rfl rfl)
theorem dX1_bestBlock_4 : decode cX1_bestBlock 4 = .ok (.istore_n 3, 1) := dk_62 (dk_at dksX1_bestBlock_0 4 rfl rfl)
theorem dX1_bestBlock_5 : decode cX1_bestBlock 5 = .ok (.aload_n 0, 1) := dk_42 (dk_at dksX1_bestBlock_0 5 rfl rfl)
theorem dX1_bestBlock_6 : decode cX1_bestBlock 6 = .ok (.getfield 41, 3) := dk_180 0 41 (dk_at dksX1_bestBlock_0 6 rfl rfl)
theorem dX1_bestBlock_9 : decode cX1_bestBlock 9 = .ok (.invokeinterface 49 1, 5) := by decide +kernel
theorem dX1_bestBlock_14 : decode cX1_bestBlock 14 = .ok (.astore 4, 2) := dk_58 4 (dk_at dksX1_bestBlock_0 14 rfl rfl)
theorem dX1_bestBlock_16 : decode cX1_bestBlock 16 = .ok (.aload 4, 2) := dk_25 4 (dk_at dksX1_bestBlock_0 16 rfl rfl)
theorem dX1_bestBlock_18 : decode cX1_bestBlock 18 = .ok (.invokeinterface 55 1, 5) := by decide +kernel
theorem dX1_bestBlock_23 : decode cX1_bestBlock 23 = .ok (.ifCond .eq 76, 3) := dk_153 0 76 (dk_at dksX1_bestBlock_1 0 rfl rfl)
theorem dX1_bestBlock_26 : decode cX1_bestBlock 26 = .ok (.aload 4, 2) := dk_25 4 (dk_at dksX1_bestBlock_1 3 rfl rfl)
theorem dX1_bestBlock_28 : decode cX1_bestBlock 28 = .ok (.invokeinterface 61 1, 5) := by decide +kernel
theorem dX1_bestBlock_33 : decode cX1_bestBlock 33 = .ok (.checkcast 64, 3) := dk_192 0 64 (dk_at dksX1_bestBlock_1 10 rfl rfl)
theorem dX1_bestBlock_36 : decode cX1_bestBlock 36 = .ok (.astore 5, 2) := dk_58 5 (dk_at dksX1_bestBlock_1 13 rfl rfl)
theorem dX1_bestBlock_38 : decode cX1_bestBlock 38 = .ok (.aload_n 0, 1) := dk_42 (dk_at dksX1_bestBlock_1 15 rfl rfl)
theorem dX1_bestBlock_39 : decode cX1_bestBlock 39 = .ok (.aload_n 1, 1) := dk_43 (dk_at dksX1_bestBlock_1 16 rfl rfl)
theorem dX1_bestBlock_40 : decode cX1_bestBlock 40 = .ok (.aload 5, 2) := dk_25 5 (dk_at dksX1_bestBlock_1 17 rfl rfl)
theorem dX1_bestBlock_42 : decode cX1_bestBlock 42 = .ok (.invokevirtual 169, 3) := dk_182 0 169 (dk_at dksX1_bestBlock_1 19 rfl rfl)
theorem dX1_bestBlock_45 : decode cX1_bestBlock 45 = .ok (.istore 6, 2) := dk_54 6 (dk_at dksX1_bestBlock_1 22 rfl rfl)
theorem dX1_bestBlock_47 : decode cX1_bestBlock 47 = .ok (.iload 6, 2) := dk_21 6 (dk_at dksX1_bestBlock_2 0 rfl rfl)
theorem dX1_bestBlock_49 : decode cX1_bestBlock 49 = .ok (.ifCond .lt 17, 3) := dk_155 0 17 (dk_at dksX1_bestBlock_2 2 rfl rfl)
theorem dX1_bestBlock_52 : decode cX1_bestBlock 52 = .ok (.iload_n 2, 1) := dk_28 (dk_at dksX1_bestBlock_2 5 rfl rfl)
theorem dX1_bestBlock_53 : decode cX1_bestBlock 53 = .ok (.ifCond .lt 9, 3) := dk_155 0 9 (dk_at dksX1_bestBlock_2 6 rfl rfl)
theorem dX1_bestBlock_56 : decode cX1_bestBlock 56 = .ok (.iload 6, 2) := dk_21 6 (dk_at dksX1_bestBlock_2 9 rfl rfl)
theorem dX1_bestBlock_58 : decode cX1_bestBlock 58 = .ok (.iload_n 3, 1) := dk_29 (dk_at dksX1_bestBlock_2 11 rfl rfl)
theorem dX1_bestBlock_59 : decode cX1_bestBlock 59 = .ok (.if_icmp .ge 7, 3) := dk_162 0 7 (dk_at dksX1_bestBlock_2 12 rfl rfl)
theorem dX1_bestBlock_62 : decode cX1_bestBlock 62 = .ok (.iconst 1, 1) := dk_4 (dk_at dksX1_bestBlock_2 15 rfl rfl)
theorem dX1_bestBlock_63 : decode cX1_bestBlock 63 = .ok (.goto 4, 3) := dk_167 0 4 (dk_at dksX1_bestBlock_2 16 rfl rfl)
theorem dX1_bestBlock_66 : decode cX1_bestBlock 66 = .ok (.iconst 0, 1) := dk_3 (dk_at dksX1_bestBlock_2 19 rfl rfl)
theorem dX1_bestBlock_67 : decode cX1_bestBlock 67 = .ok (.istore 7, 2) := dk_54 7 (dk_at dksX1_bestBlock_2 20 rfl rfl)
theorem dX1_bestBlock_69 : decode cX1_bestBlock 69 = .ok (.iload 7, 2) := dk_21 7 (dk_at dksX1_bestBlock_2 22 rfl rfl)
theorem dX1_bestBlock_71 : decode cX1_bestBlock 71 = .ok (.ifCond .eq 11, 3) := dk_153 0 11 (dk_at dksX1_bestBlock_3 0 rfl rfl)
theorem dX1_bestBlock_74 : decode cX1_bestBlock 74 = .ok (.aload 5, 2) := dk_25 5 (dk_at dksX1_bestBlock_3 3 rfl rfl)
theorem dX1_bestBlock_76 : decode cX1_bestBlock 76 = .ok (.getfield 101, 3) := dk_180 0 101 (dk_at dksX1_bestBlock_3 5 rfl rfl)
theorem dX1_bestBlock_79 : decode cX1_bestBlock 79 = .ok (.goto 4, 3) := dk_167 0 4 (dk_at dksX1_bestBlock_3 8 rfl rfl)
theorem dX1_bestBlock_82 : decode cX1_bestBlock 82 = .ok (.iload_n 2, 1) := dk_28 (dk_at dksX1_bestBlock_3 11 rfl rfl)
theorem dX1_bestBlock_83 : decode cX1_bestBlock 83 = .ok (.istore_n 2, 1) := dk_61 (dk_at dksX1_bestBlock_3 12 rfl rfl)
theorem dX1_bestBlock_84 : decode cX1_bestBlock 84 = .ok (.iload 7, 2) := dk_21 7 (dk_at dksX1_bestBlock_3 13 rfl rfl)
theorem dX1_bestBlock_86 : decode cX1_bestBlock 86 = .ok (.ifCond .eq 8, 3) := dk_153 0 8 (dk_at dksX1_bestBlock_3 15 rfl rfl)
theorem dX1_bestBlock_89 : decode cX1_bestBlock 89 = .ok (.iload 6, 2) := dk_21 6 (dk_at dksX1_bestBlock_3 18 rfl rfl)
theorem dX1_bestBlock_91 : decode cX1_bestBlock 91 = .ok (.goto 4, 3) := dk_167 0 4 (dk_at dksX1_bestBlock_3 20 rfl rfl)
theorem dX1_bestBlock_94 : decode cX1_bestBlock 94 = .ok (.iload_n 3, 1) := dk_29 (dk_at dksX1_bestBlock_3 23 rfl rfl)
theorem dX1_bestBlock_95 : decode cX1_bestBlock 95 = .ok (.istore_n 3, 1) := dk_62 (dk_at dksX1_bestBlock_4 0 rfl rfl)
theorem dX1_bestBlock_96 : decode cX1_bestBlock 96 = .ok (.goto (-80), 3) := dk_167 255 176 (dk_at dksX1_bestBlock_4 1 rfl rfl)
theorem dX1_bestBlock_99 : decode cX1_bestBlock 99 = .ok (.iload_n 2, 1) := dk_28 (dk_at dksX1_bestBlock_4 4 rfl rfl)
theorem dX1_bestBlock_100 : decode cX1_bestBlock 100 = .ok (.ireturn, 1) := dk_172 (dk_at dksX1_bestBlock_4 5 rfl rfl)
theorem q90 : (Jvm.Cond.initialized "QuarryOrders$Quarry") ∈ lw_all := lw_g (lw_at lw_m1 2 rfl) rfl
theorem q126 : (Jvm.Cond.instantiable "QuarryOrders$Quarry" (13 : Nat)) ∈ lw_all := lw_g (lw_at lw_m1 38 rfl) rfl
theorem q128 : (Jvm.Cond.instanceMethod ({ cls := "QuarryOrders$Quarry", name := "<init>", desc := "()V" } : Jvm.MethodName)) ∈ lw_all := lw_g (lw_at lw_m1 40 rfl) rfl
theorem q129 : (Jvm.Cond.code ({ cls := "QuarryOrders$Quarry", name := "<init>", desc := "()V" } : Jvm.MethodName) prog_4_method_1_code (1 : Nat) (Option.none : Option Jvm.ClassFile.FieldType)) ∈ lw_all := lw_g (lw_at lw_m1 41 rfl) rfl
theorem q130 : (Jvm.Cond.methodLink "QuarryOrders$Quarry" (3 : Nat) ({ cls := "QuarryOrders$Quarry", name := "<init>", desc := "(III)V" } : Jvm.MethodName)) ∈ lw_all := lw_g (lw_at lw_m1 42 rfl) rfl
theorem q131 : (Jvm.Cond.instanceMethod ({ cls := "QuarryOrders$Quarry", name := "<init>", desc := "(III)V" } : Jvm.MethodName)) ∈ lw_all := lw_g (lw_at lw_m1 43 rfl) rfl
theorem q132 : (Jvm.Cond.code ({ cls := "QuarryOrders$Quarry", name := "<init>", desc := "(III)V" } : Jvm.MethodName) prog_4_method_2_code (5 : Nat) (Option.none : Option Jvm.ClassFile.FieldType)) ∈ lw_all := lw_g (lw_at lw_m1 44 rfl) rfl
theorem q133 : (Jvm.Cond.methodLink "QuarryOrders$Quarry" (9 : Nat) ({ cls := "java/lang/Object", name := "<init>", desc := "()V" } : Jvm.MethodName)) ∈ lw_all := lw_g (lw_at lw_m1 45 rfl) rfl
theorem q134 : (Jvm.Cond.fieldLinkNest "QuarryOrders$Quarry" (14 : Nat) "QuarryOrders" "FIRST" "[I" "QuarryOrders") ∈ lw_tbl := lw_at lw_m1 46 rfl
theorem q136 : (Jvm.Cond.methodLink "QuarryOrders$Quarry" (18 : Nat) ({ cls := "[I", name := "clone", desc := "()Ljava/lang/Object;" } : Jvm.MethodName)) ∈ lw_all := lw_g (lw_at lw_m1 48 rfl) rfl
theorem q142 : (Jvm.Cond.classLink "QuarryOrders$Quarry" (19 : Nat) "[I") ∈ lw_all := lw_g (lw_at lw_m1 54 rfl) rfl
theorem q143 : (Jvm.Cond.classLink "QuarryOrders$Quarry" (38 : Nat) "java/util/ArrayList") ∈ lw_all := lw_g (lw_at lw_m1 55 rfl) rfl
theorem q145 : (Jvm.Cond.methodLink "QuarryOrders$Quarry" (40 : Nat) ({ cls := "java/util/ArrayList", name := "<init>", desc := "()V" } : Jvm.MethodName)) ∈ lw_all := lw_g (lw_at lw_m1 57 rfl) rfl
theorem q173 : (Jvm.Cond.fieldLink "QuarryOrders$Quarry" (23 : Nat) "QuarryOrders$Quarry" "settings" "[I") ∈ lw_all := lw_g (lw_at lw_m1 85 rfl) rfl
theorem q175 : (Jvm.Cond.fieldLink "QuarryOrders$Quarry" (26 : Nat) "QuarryOrders$Quarry" "front" "[I") ∈ lw_all := lw_g (lw_at lw_m1 87 rfl) rfl
theorem q177 : (Jvm.Cond.fieldLink "QuarryOrders$Quarry" (29 : Nat) "QuarryOrders$Quarry" "rear" "[I") ∈ lw_all := lw_g (lw_at lw_m1 89 rfl) rfl
theorem q179 : (Jvm.Cond.fieldLink "QuarryOrders$Quarry" (32 : Nat) "QuarryOrders$Quarry" "load" "[I") ∈ lw_all := lw_g (lw_at lw_m1 91 rfl) rfl
theorem q181 : (Jvm.Cond.fieldLink "QuarryOrders$Quarry" (35 : Nat) "QuarryOrders$Quarry" "left" "[I") ∈ lw_all := lw_g (lw_at lw_m1 93 rfl) rfl
theorem q183 : (Jvm.Cond.fieldLink "QuarryOrders$Quarry" (41 : Nat) "QuarryOrders$Quarry" "blocks" "Ljava/util/List;") ∈ lw_all := lw_g (lw_at lw_m1 95 rfl) rfl
theorem q185 : (Jvm.Cond.fieldLink "QuarryOrders$Quarry" (45 : Nat) "QuarryOrders$Quarry" "orders" "Ljava/util/List;") ∈ lw_all := lw_g (lw_at lw_m1 97 rfl) rfl
theorem q187 : (Jvm.Cond.fieldLink "QuarryOrders$Quarry" (78 : Nat) "QuarryOrders$Quarry" "frost" "Z") ∈ lw_all := lw_g (lw_at lw_m1 99 rfl) rfl
theorem q189 : (Jvm.Cond.fieldLink "QuarryOrders$Quarry" (82 : Nat) "QuarryOrders$Quarry" "nights" "I") ∈ lw_all := lw_g (lw_at lw_m1 101 rfl) rfl
theorem q191 : (Jvm.Cond.fieldLink "QuarryOrders$Quarry" (86 : Nat) "QuarryOrders$Quarry" "quarried" "I") ∈ lw_all := lw_g (lw_at lw_m1 103 rfl) rfl
theorem q193 : (Jvm.Cond.fieldLink "QuarryOrders$Quarry" (89 : Nat) "QuarryOrders$Quarry" "lost" "I") ∈ lw_all := lw_g (lw_at lw_m1 105 rfl) rfl
theorem q195 : (Jvm.Cond.fieldLink "QuarryOrders$Quarry" (92 : Nat) "QuarryOrders$Quarry" "delivered" "I") ∈ lw_all := lw_g (lw_at lw_m1 107 rfl) rfl
theorem q197 : (Jvm.Cond.fieldLink "QuarryOrders$Quarry" (95 : Nat) "QuarryOrders$Quarry" "invoices" "I") ∈ lw_all := lw_g (lw_at lw_m1 109 rfl) rfl
theorem q199 : (Jvm.Cond.lays "QuarryOrders$Quarry" "QuarryOrders$Quarry" "settings" "[I") ∈ lw_all := lw_g (lw_at lw_m1 111 rfl) rfl
theorem q200 : (Jvm.Cond.soleField "QuarryOrders$Quarry" "settings") ∈ lw_all := lw_g (lw_at lw_m1 112 rfl) rfl
theorem q201 : (Jvm.Cond.lays "QuarryOrders$Quarry" "QuarryOrders$Quarry" "front" "[I") ∈ lw_all := lw_g (lw_at lw_m1 113 rfl) rfl
theorem q202 : (Jvm.Cond.soleField "QuarryOrders$Quarry" "front") ∈ lw_all := lw_g (lw_at lw_m1 114 rfl) rfl
theorem q203 : (Jvm.Cond.lays "QuarryOrders$Quarry" "QuarryOrders$Quarry" "rear" "[I") ∈ lw_all := lw_g (lw_at lw_m1 115 rfl) rfl
theorem q204 : (Jvm.Cond.soleField "QuarryOrders$Quarry" "rear") ∈ lw_all := lw_g (lw_at lw_m1 116 rfl) rfl
theorem q205 : (Jvm.Cond.lays "QuarryOrders$Quarry" "QuarryOrders$Quarry" "load" "[I") ∈ lw_all := lw_g (lw_at lw_m1 117 rfl) rfl
theorem q206 : (Jvm.Cond.soleField "QuarryOrders$Quarry" "load") ∈ lw_all := lw_g (lw_at lw_m1 118 rfl) rfl
theorem q207 : (Jvm.Cond.lays "QuarryOrders$Quarry" "QuarryOrders$Quarry" "left" "[I") ∈ lw_all := lw_g (lw_at lw_m1 119 rfl) rfl
theorem q208 : (Jvm.Cond.soleField "QuarryOrders$Quarry" "left") ∈ lw_all := lw_g (lw_at lw_m1 120 rfl) rfl
theorem q209 : (Jvm.Cond.laysFinal "QuarryOrders$Quarry" "QuarryOrders$Quarry" "blocks" "Ljava/util/List;") ∈ lw_all := lw_g (lw_at lw_m1 121 rfl) rfl
theorem q210 : (Jvm.Cond.soleField "QuarryOrders$Quarry" "blocks") ∈ lw_all := lw_g (lw_at lw_m1 122 rfl) rfl
theorem q211 : (Jvm.Cond.laysFinal "QuarryOrders$Quarry" "QuarryOrders$Quarry" "orders" "Ljava/util/List;") ∈ lw_all := lw_g (lw_at lw_m1 123 rfl) rfl
theorem q212 : (Jvm.Cond.soleField "QuarryOrders$Quarry" "orders") ∈ lw_all := lw_g (lw_at lw_m1 124 rfl) rfl
theorem q213 : (Jvm.Cond.lays "QuarryOrders$Quarry" "QuarryOrders$Quarry" "frost" "Z") ∈ lw_all := lw_g (lw_at lw_m1 125 rfl) rfl
theorem q214 : (Jvm.Cond.soleField "QuarryOrders$Quarry" "frost") ∈ lw_all := lw_g (lw_at lw_m1 126 rfl) rfl
theorem q215 : (Jvm.Cond.lays "QuarryOrders$Quarry" "QuarryOrders$Quarry" "nights" "I") ∈ lw_all := lw_g (lw_at lw_m1 127 rfl) rfl
theorem q216 : (Jvm.Cond.soleField "QuarryOrders$Quarry" "nights") ∈ lw_all := lw_g (lw_at lw_m1 128 rfl) rfl
theorem q217 : (Jvm.Cond.lays "QuarryOrders$Quarry" "QuarryOrders$Quarry" "quarried" "I") ∈ lw_all := lw_g (lw_at lw_m1 129 rfl) rfl
theorem q218 : (Jvm.Cond.soleField "QuarryOrders$Quarry" "quarried") ∈ lw_all := lw_g (lw_at lw_m1 130 rfl) rfl
theorem q219 : (Jvm.Cond.lays "QuarryOrders$Quarry" "QuarryOrders$Quarry" "lost" "I") ∈ lw_all := lw_g (lw_at lw_m1 131 rfl) rfl
theorem q220 : (Jvm.Cond.soleField "QuarryOrders$Quarry" "lost") ∈ lw_all := lw_g (lw_at lw_m1 132 rfl) rfl
theorem q221 : (Jvm.Cond.lays "QuarryOrders$Quarry" "QuarryOrders$Quarry" "delivered" "I") ∈ lw_all := lw_g (lw_at lw_m1 133 rfl) rfl
theorem q222 : (Jvm.Cond.soleField "QuarryOrders$Quarry" "delivered") ∈ lw_all := lw_g (lw_at lw_m1 134 rfl) rfl
theorem q223 : (Jvm.Cond.lays "QuarryOrders$Quarry" "QuarryOrders$Quarry" "invoices" "I") ∈ lw_all := lw_g (lw_at lw_m1 135 rfl) rfl
theorem q224 : (Jvm.Cond.soleField "QuarryOrders$Quarry" "invoices") ∈ lw_all := lw_g (lw_at lw_m1 136 rfl) rfl
theorem q225 : (Jvm.Cond.superclass "QuarryOrders$Quarry" "java/lang/Object") ∈ lw_all := lw_g (lw_at lw_m1 137 rfl) rfl
theorem q327 : (Jvm.Cond.instanceMethod ({ cls := "QuarryOrders$Quarry", name := "copy", desc := "()LQuarryOrders$Quarry;" } : Jvm.MethodName)) ∈ lw_all := lw_g (lw_at lw_m1 239 rfl) rfl
theorem q328 : (Jvm.Cond.selects "QuarryOrders$Quarry" ({ cls := "QuarryOrders$Quarry", name := "copy", desc := "()LQuarryOrders$Quarry;" } : Jvm.MethodName) ({ cls := "QuarryOrders$Quarry", name := "copy", desc := "()LQuarryOrders$Quarry;" } : Jvm.MethodName)) ∈ lw_all := lw_g (lw_at lw_m2 0 rfl) rfl
theorem q329 : (Jvm.Cond.code ({ cls := "QuarryOrders$Quarry", name := "copy", desc := "()LQuarryOrders$Quarry;" } : Jvm.MethodName) prog_4_method_3_code (4 : Nat) (Option.some (Jvm.ClassFile.FieldType.object "QuarryOrders$Quarry"))) ∈ lw_all := lw_g (lw_at lw_m2 1 rfl) rfl
theorem q330 : (Jvm.Cond.classLink "QuarryOrders$Quarry" (4 : Nat) "QuarryOrders$Quarry") ∈ lw_all := lw_g (lw_at lw_m2 2 rfl) rfl
theorem q331 : (Jvm.Cond.methodLink "QuarryOrders$Quarry" (48 : Nat) ({ cls := "QuarryOrders$Quarry", name := "<init>", desc := "()V" } : Jvm.MethodName)) ∈ lw_all := lw_g (lw_at lw_m2 3 rfl) rfl
theorem q332 : (Jvm.Cond.interfaceEntry "QuarryOrders$Quarry" (49 : Nat)) ∈ lw_tbl := lw_at lw_m2 4 rfl
theorem q333 : (Jvm.Cond.methodLink "QuarryOrders$Quarry" (49 : Nat) ({ cls := "java/util/List", name := "iterator", desc := "()Ljava/util/Iterator;" } : Jvm.MethodName)) ∈ lw_all := lw_g (lw_at lw_m2 5 rfl) rfl
theorem q360 : (Jvm.Cond.interfaceEntry "QuarryOrders$Quarry" (55 : Nat)) ∈ lw_tbl := lw_at lw_m2 32 rfl
theorem q361 : (Jvm.Cond.methodLink "QuarryOrders$Quarry" (55 : Nat) ({ cls := "java/util/Iterator", name := "hasNext", desc := "()Z" } : Jvm.MethodName)) ∈ lw_all := lw_g (lw_at lw_m2 33 rfl) rfl
theorem q370 : (Jvm.Cond.interfaceEntry "QuarryOrders$Quarry" (61 : Nat)) ∈ lw_tbl := lw_at lw_m2 42 rfl
theorem q371 : (Jvm.Cond.methodLink "QuarryOrders$Quarry" (61 : Nat) ({ cls := "java/util/Iterator", name := "next", desc := "()Ljava/lang/Object;" } : Jvm.MethodName)) ∈ lw_all := lw_g (lw_at lw_m2 43 rfl) rfl
theorem q383 : (Jvm.Cond.classLink "QuarryOrders$Quarry" (64 : Nat) "QuarryOrders$Block") ∈ lw_all := lw_g (lw_at lw_m2 55 rfl) rfl
theorem q385 : (Jvm.Cond.methodLink "QuarryOrders$Quarry" (66 : Nat) ({ cls := "QuarryOrders$Block", name := "<init>", desc := "(LQuarryOrders$Block;)V" } : Jvm.MethodName)) ∈ lw_all := lw_g (lw_at lw_m2 57 rfl) rfl
theorem q393 : (Jvm.Cond.fieldLinkNest "QuarryOrders$Quarry" (101 : Nat) "QuarryOrders$Block" "number" "I" "QuarryOrders") ∈ lw_tbl := lw_at lw_m2 65 rfl
theorem q396 : (Jvm.Cond.fieldLinkNest "QuarryOrders$Quarry" (123 : Nat) "QuarryOrders$Block" "sizes" "LQuarryOrders$Sizes;" "QuarryOrders") ∈ lw_tbl := lw_at lw_m2 68 rfl
theorem q399 : (Jvm.Cond.fieldLinkNest "QuarryOrders$Quarry" (133 : Nat) "QuarryOrders$Block" "density" "I" "QuarryOrders") ∈ lw_tbl := lw_at lw_m2 71 rfl
theorem q404 : (Jvm.Cond.fieldLinkNest "QuarryOrders$Quarry" (98 : Nat) "QuarryOrders$Block" "where" "I" "QuarryOrders") ∈ lw_tbl := lw_at lw_m2 76 rfl
theorem q407 : (Jvm.Cond.fieldLinkNest "QuarryOrders$Quarry" (136 : Nat) "QuarryOrders$Block" "wet" "I" "QuarryOrders") ∈ lw_tbl := lw_at lw_m2 79 rfl
theorem q410 : (Jvm.Cond.fieldLinkNest "QuarryOrders$Quarry" (158 : Nat) "QuarryOrders$Block" "order" "I" "QuarryOrders") ∈ lw_tbl := lw_at lw_m2 82 rfl
theorem q413 : (Jvm.Cond.fieldLinkNest "QuarryOrders$Quarry" (176 : Nat) "QuarryOrders$Block" "place" "I" "QuarryOrders") ∈ lw_tbl := lw_at lw_m2 85 rfl
theorem q416 : (Jvm.Cond.fieldLinkNest "QuarryOrders$Quarry" (145 : Nat) "QuarryOrders$Block" "cracked" "Z" "QuarryOrders") ∈ lw_tbl := lw_at lw_m2 88 rfl
theorem q437 : (Jvm.Cond.interfaceEntry "QuarryOrders$Quarry" (69 : Nat)) ∈ lw_tbl := lw_at lw_m2 109 rfl
theorem q438 : (Jvm.Cond.methodLink "QuarryOrders$Quarry" (69 : Nat) ({ cls := "java/util/List", name := "add", desc := "(Ljava/lang/Object;)Z" } : Jvm.MethodName)) ∈ lw_all := lw_g (lw_at lw_m2 110 rfl) rfl
theorem q477 : (Jvm.Cond.selects "QuarryOrders$Quarry" ({ cls := "java/lang/Object", name := "getClass", desc := "()Ljava/lang/Class;" } : Jvm.MethodName) ({ cls := "java/lang/Object", name := "getClass", desc := "()Ljava/lang/Class;" } : Jvm.MethodName)) ∈ lw_all := lw_g (lw_at lw_m2 149 rfl) rfl
theorem q497 : (Jvm.Cond.classLink "QuarryOrders$Quarry" (73 : Nat) "QuarryOrders$Order") ∈ lw_all := lw_g (lw_at lw_m2 169 rfl) rfl
theorem q499 : (Jvm.Cond.methodLink "QuarryOrders$Quarry" (75 : Nat) ({ cls := "QuarryOrders$Order", name := "<init>", desc := "(LQuarryOrders$Order;)V" } : Jvm.MethodName)) ∈ lw_all := lw_g (lw_at lw_m2 171 rfl) rfl
theorem q507 : (Jvm.Cond.fieldLinkNest "QuarryOrders$Quarry" (161 : Nat) "QuarryOrders$Order" "sizes" "LQuarryOrders$Sizes;" "QuarryOrders") ∈ lw_tbl := lw_at lw_m2 179 rfl
theorem q510 : (Jvm.Cond.fieldLinkNest "QuarryOrders$Quarry" (166 : Nat) "QuarryOrders$Order" "state" "I" "QuarryOrders") ∈ lw_tbl := lw_at lw_m2 182 rfl
theorem q515 : (Jvm.Cond.fieldLinkNest "QuarryOrders$Quarry" (201 : Nat) "QuarryOrders$Order" "invoice" "I" "QuarryOrders") ∈ lw_tbl := lw_at lw_m2 187 rfl
theorem q563 : (Jvm.Cond.instanceMethod ({ cls := "QuarryOrders$Quarry", name := "quarry", desc := "(LQuarryOrders$Sizes;I)I" } : Jvm.MethodName)) ∈ lw_all := lw_g (lw_at lw_m2 235 rfl) rfl
theorem q564 : (Jvm.Cond.selects "QuarryOrders$Quarry" ({ cls := "QuarryOrders$Quarry", name := "quarry", desc := "(LQuarryOrders$Sizes;I)I" } : Jvm.MethodName) ({ cls := "QuarryOrders$Quarry", name := "quarry", desc := "(LQuarryOrders$Sizes;I)I" } : Jvm.MethodName)) ∈ lw_all := lw_g (lw_at lw_m2 236 rfl) rfl
theorem q565 : (Jvm.Cond.code ({ cls := "QuarryOrders$Quarry", name := "quarry", desc := "(LQuarryOrders$Sizes;I)I" } : Jvm.MethodName) prog_4_method_6_code (4 : Nat) (Option.some Jvm.ClassFile.FieldType.int)) ∈ lw_all := lw_g (lw_at lw_m2 237 rfl) rfl
theorem q566 : (Jvm.Cond.interfaceEntry "QuarryOrders$Quarry" (113 : Nat)) ∈ lw_tbl := lw_at lw_m2 238 rfl
theorem q567 : (Jvm.Cond.methodLink "QuarryOrders$Quarry" (113 : Nat) ({ cls := "java/util/List", name := "size", desc := "()I" } : Jvm.MethodName)) ∈ lw_all := lw_g (lw_at lw_m2 239 rfl) rfl
theorem q568 : (Jvm.Cond.methodLink "QuarryOrders$Quarry" (117 : Nat) ({ cls := "QuarryOrders$Block", name := "<init>", desc := "(ILQuarryOrders$Sizes;I)V" } : Jvm.MethodName)) ∈ lw_all := lw_g (lw_at lw_m3 0 rfl) rfl
theorem q571 : (Jvm.Cond.methodLink "QuarryOrders$Quarry" (120 : Nat) ({ cls := "QuarryOrders$Block", name := "weight", desc := "()I" } : Jvm.MethodName)) ∈ lw_all := lw_g (lw_at lw_m3 3 rfl) rfl
theorem q622 : (Jvm.Cond.instanceMethod ({ cls := "QuarryOrders$Quarry", name := "leavesRest", desc := "(LQuarryOrders$Block;II)Z" } : Jvm.MethodName)) ∈ lw_all := lw_g (lw_at lw_m3 54 rfl) rfl
theorem q623 : (Jvm.Cond.selects "QuarryOrders$Quarry" ({ cls := "QuarryOrders$Quarry", name := "leavesRest", desc := "(LQuarryOrders$Block;II)Z" } : Jvm.MethodName) ({ cls := "QuarryOrders$Quarry", name := "leavesRest", desc := "(LQuarryOrders$Block;II)Z" } : Jvm.MethodName)) ∈ lw_all := lw_g (lw_at lw_m3 55 rfl) rfl
theorem q624 : (Jvm.Cond.code ({ cls := "QuarryOrders$Quarry", name := "leavesRest", desc := "(LQuarryOrders$Block;II)Z" } : Jvm.MethodName) prog_4_method_9_code (4 : Nat) (Option.some Jvm.ClassFile.FieldType.boolean)) ∈ lw_all := lw_g (lw_at lw_m3 56 rfl) rfl
theorem q625 : (Jvm.Cond.methodLink "QuarryOrders$Quarry" (148 : Nat) ({ cls := "QuarryOrders$Sizes", name := "of", desc := "(I)I" } : Jvm.MethodName)) ∈ lw_all := lw_g (lw_at lw_m3 57 rfl) rfl
theorem q630 : (Jvm.Cond.instanceMethod ({ cls := "QuarryOrders$Quarry", name := "cut", desc := "(LQuarryOrders$Block;II)I" } : Jvm.MethodName)) ∈ lw_all := lw_g (lw_at lw_m3 62 rfl) rfl
theorem q631 : (Jvm.Cond.selects "QuarryOrders$Quarry" ({ cls := "QuarryOrders$Quarry", name := "cut", desc := "(LQuarryOrders$Block;II)I" } : Jvm.MethodName) ({ cls := "QuarryOrders$Quarry", name := "cut", desc := "(LQuarryOrders$Block;II)I" } : Jvm.MethodName)) ∈ lw_all := lw_g (lw_at lw_m3 63 rfl) rfl
theorem q632 : (Jvm.Cond.code ({ cls := "QuarryOrders$Quarry", name := "cut", desc := "(LQuarryOrders$Block;II)I" } : Jvm.MethodName) prog_4_method_8_code (8 : Nat) (Option.some Jvm.ClassFile.FieldType.int)) ∈ lw_all := lw_g (lw_at lw_m3 64 rfl) rfl
theorem q633 : (Jvm.Cond.methodLink "QuarryOrders$Quarry" (151 : Nat) ({ cls := "QuarryOrders$Quarry", name := "make", desc := "(LQuarryOrders$Block;II)V" } : Jvm.MethodName)) ∈ lw_all := lw_g (lw_at lw_m3 65 rfl) rfl
theorem q634 : (Jvm.Cond.privateMethod ({ cls := "QuarryOrders$Quarry", name := "make", desc := "(LQuarryOrders$Block;II)V" } : Jvm.MethodName)) ∈ lw_tbl := lw_at lw_m3 66 rfl
theorem q635 : (Jvm.Cond.instanceMethod ({ cls := "QuarryOrders$Quarry", name := "make", desc := "(LQuarryOrders$Block;II)V" } : Jvm.MethodName)) ∈ lw_all := lw_g (lw_at lw_m3 67 rfl) rfl
theorem q636 : (Jvm.Cond.code ({ cls := "QuarryOrders$Quarry", name := "make", desc := "(LQuarryOrders$Block;II)V" } : Jvm.MethodName) prog_4_method_7_code (5 : Nat) (Option.none : Option Jvm.ClassFile.FieldType)) ∈ lw_all := lw_g (lw_at lw_m3 68 rfl) rfl
theorem q637 : (Jvm.Cond.methodLink "QuarryOrders$Quarry" (127 : Nat) ({ cls := "QuarryOrders$Sizes", name := "with", desc := "(II)LQuarryOrders$Sizes;" } : Jvm.MethodName)) ∈ lw_all := lw_g (lw_at lw_m3 69 rfl) rfl
theorem q643 : (Jvm.Cond.methodLink "QuarryOrders$Quarry" (139 : Nat) ({ cls := "QuarryOrders$Block", name := "<init>", desc := "(ILQuarryOrders$Sizes;III)V" } : Jvm.MethodName)) ∈ lw_all := lw_g (lw_at lw_m3 75 rfl) rfl
theorem q644 : (Jvm.Cond.methodLink "QuarryOrders$Quarry" (142 : Nat) ({ cls := "QuarryOrders$Quarry", name := "roofed", desc := "()I" } : Jvm.MethodName)) ∈ lw_all := lw_g (lw_at lw_m3 76 rfl) rfl
theorem q645 : (Jvm.Cond.instanceMethod ({ cls := "QuarryOrders$Quarry", name := "roofed", desc := "()I" } : Jvm.MethodName)) ∈ lw_all := lw_g (lw_at lw_m3 77 rfl) rfl
theorem q646 : (Jvm.Cond.selects "QuarryOrders$Quarry" ({ cls := "QuarryOrders$Quarry", name := "roofed", desc := "()I" } : Jvm.MethodName) ({ cls := "QuarryOrders$Quarry", name := "roofed", desc := "()I" } : Jvm.MethodName)) ∈ lw_all := lw_g (lw_at lw_m3 78 rfl) rfl
theorem q647 : (Jvm.Cond.code ({ cls := "QuarryOrders$Quarry", name := "roofed", desc := "()I" } : Jvm.MethodName) prog_4_method_5_code (1 : Nat) (Option.some Jvm.ClassFile.FieldType.int)) ∈ lw_all := lw_g (lw_at lw_m3 79 rfl) rfl
theorem q648 : (Jvm.Cond.methodLink "QuarryOrders$Quarry" (104 : Nat) ({ cls := "QuarryOrders$Quarry", name := "in", desc := "(I)I" } : Jvm.MethodName)) ∈ lw_all := lw_g (lw_at lw_m3 80 rfl) rfl
theorem q649 : (Jvm.Cond.instanceMethod ({ cls := "QuarryOrders$Quarry", name := "in", desc := "(I)I" } : Jvm.MethodName)) ∈ lw_all := lw_g (lw_at lw_m3 81 rfl) rfl
theorem q650 : (Jvm.Cond.selects "QuarryOrders$Quarry" ({ cls := "QuarryOrders$Quarry", name := "in", desc := "(I)I" } : Jvm.MethodName) ({ cls := "QuarryOrders$Quarry", name := "in", desc := "(I)I" } : Jvm.MethodName)) ∈ lw_all := lw_g (lw_at lw_m3 82 rfl) rfl
theorem q651 : (Jvm.Cond.code ({ cls := "QuarryOrders$Quarry", name := "in", desc := "(I)I" } : Jvm.MethodName) prog_4_method_4_code (5 : Nat) (Option.some Jvm.ClassFile.FieldType.int)) ∈ lw_all := lw_g (lw_at lw_m3 83 rfl) rfl
theorem q652 : (Jvm.Cond.methodLink "QuarryOrders$Quarry" (108 : Nat) ({ cls := "java/lang/Integer", name := "bitCount", desc := "(I)I" } : Jvm.MethodName)) ∈ lw_all := lw_g (lw_at lw_m3 84 rfl) rfl
theorem q704 : (Jvm.Cond.instanceMethod ({ cls := "QuarryOrders$Quarry", name := "over", desc := "(LQuarryOrders$Order;LQuarryOrders$Block;)I" } : Jvm.MethodName)) ∈ lw_all := lw_g (lw_at lw_m3 136 rfl) rfl
theorem q705 : (Jvm.Cond.selects "QuarryOrders$Quarry" ({ cls := "QuarryOrders$Quarry", name := "over", desc := "(LQuarryOrders$Order;LQuarryOrders$Block;)I" } : Jvm.MethodName) ({ cls := "QuarryOrders$Quarry", name := "over", desc := "(LQuarryOrders$Order;LQuarryOrders$Block;)I" } : Jvm.MethodName)) ∈ lw_all := lw_g (lw_at lw_m3 137 rfl) rfl
theorem q706 : (Jvm.Cond.code ({ cls := "QuarryOrders$Quarry", name := "over", desc := "(LQuarryOrders$Order;LQuarryOrders$Block;)I" } : Jvm.MethodName) prog_4_method_10_code (4 : Nat) (Option.some Jvm.ClassFile.FieldType.int)) ∈ lw_all := lw_g (lw_at lw_m3 138 rfl) rfl
theorem q707 : (Jvm.Cond.methodLink "QuarryOrders$Quarry" (155 : Nat) ({ cls := "QuarryOrders$Block", name := "isHere", desc := "()Z" } : Jvm.MethodName)) ∈ lw_all := lw_g (lw_at lw_m3 139 rfl) rfl
theorem q711 : (Jvm.Cond.methodLink "QuarryOrders$Quarry" (162 : Nat) ({ cls := "QuarryOrders$Sizes", name := "over", desc := "(LQuarryOrders$Sizes;I)I" } : Jvm.MethodName)) ∈ lw_all := lw_g (lw_at lw_m3 143 rfl) rfl
theorem q746 : (Jvm.Cond.instanceMethod ({ cls := "QuarryOrders$Quarry", name := "on", desc := "(II)LQuarryOrders$Block;" } : Jvm.MethodName)) ∈ lw_all := lw_g (lw_at lw_m3 178 rfl) rfl
theorem q747 : (Jvm.Cond.selects "QuarryOrders$Quarry" ({ cls := "QuarryOrders$Quarry", name := "on", desc := "(II)LQuarryOrders$Block;" } : Jvm.MethodName) ({ cls := "QuarryOrders$Quarry", name := "on", desc := "(II)LQuarryOrders$Block;" } : Jvm.MethodName)) ∈ lw_all := lw_g (lw_at lw_m3 179 rfl) rfl
theorem q748 : (Jvm.Cond.code ({ cls := "QuarryOrders$Quarry", name := "on", desc := "(II)LQuarryOrders$Block;" } : Jvm.MethodName) prog_4_method_13_code (5 : Nat) (Option.some (Jvm.ClassFile.FieldType.object "QuarryOrders$Block"))) ∈ lw_all := lw_g (lw_at lw_m3 180 rfl) rfl
theorem q749 : (Jvm.Cond.methodLink "QuarryOrders$Quarry" (172 : Nat) ({ cls := "QuarryOrders$Block", name := "isOn", desc := "(I)Z" } : Jvm.MethodName)) ∈ lw_all := lw_g (lw_at lw_m3 181 rfl) rfl
theorem q754 : (Jvm.Cond.instanceMethod ({ cls := "QuarryOrders$Quarry", name := "loadOf", desc := "(I)I" } : Jvm.MethodName)) ∈ lw_all := lw_g (lw_at lw_m3 186 rfl) rfl
theorem q755 : (Jvm.Cond.selects "QuarryOrders$Quarry" ({ cls := "QuarryOrders$Quarry", name := "loadOf", desc := "(I)I" } : Jvm.MethodName) ({ cls := "QuarryOrders$Quarry", name := "loadOf", desc := "(I)I" } : Jvm.MethodName)) ∈ lw_all := lw_g (lw_at lw_m3 187 rfl) rfl
theorem q756 : (Jvm.Cond.code ({ cls := "QuarryOrders$Quarry", name := "loadOf", desc := "(I)I" } : Jvm.MethodName) prog_4_method_15_code (5 : Nat) (Option.some Jvm.ClassFile.FieldType.int)) ∈ lw_all := lw_g (lw_at lw_m3 188 rfl) rfl
theorem q770 : (Jvm.Cond.instanceMethod ({ cls := "QuarryOrders$Quarry", name := "why", desc := "(I)I" } : Jvm.MethodName)) ∈ lw_all := lw_g (lw_at lw_m3 202 rfl) rfl
theorem q771 : (Jvm.Cond.selects "QuarryOrders$Quarry" ({ cls := "QuarryOrders$Quarry", name := "why", desc := "(I)I" } : Jvm.MethodName) ({ cls := "QuarryOrders$Quarry", name := "why", desc := "(I)I" } : Jvm.MethodName)) ∈ lw_all := lw_g (lw_at lw_m3 203 rfl) rfl
theorem q772 : (Jvm.Cond.code ({ cls := "QuarryOrders$Quarry", name := "why", desc := "(I)I" } : Jvm.MethodName) prog_4_method_18_code (2 : Nat) (Option.some Jvm.ClassFile.FieldType.int)) ∈ lw_all := lw_g (lw_at lw_m3 204 rfl) rfl
theorem q773 : (Jvm.Cond.methodLink "QuarryOrders$Quarry" (184 : Nat) ({ cls := "QuarryOrders$Quarry", name := "blocksOn", desc := "(I)I" } : Jvm.MethodName)) ∈ lw_all := lw_g (lw_at lw_m3 205 rfl) rfl
theorem q774 : (Jvm.Cond.instanceMethod ({ cls := "QuarryOrders$Quarry", name := "blocksOn", desc := "(I)I" } : Jvm.MethodName)) ∈ lw_all := lw_g (lw_at lw_m3 206 rfl) rfl
theorem q775 : (Jvm.Cond.selects "QuarryOrders$Quarry" ({ cls := "QuarryOrders$Quarry", name := "blocksOn", desc := "(I)I" } : Jvm.MethodName) ({ cls := "QuarryOrders$Quarry", name := "blocksOn", desc := "(I)I" } : Jvm.MethodName)) ∈ lw_all := lw_g (lw_at lw_m3 207 rfl) rfl
theorem q776 : (Jvm.Cond.code ({ cls := "QuarryOrders$Quarry", name := "blocksOn", desc := "(I)I" } : Jvm.MethodName) prog_4_method_14_code (5 : Nat) (Option.some Jvm.ClassFile.FieldType.int)) ∈ lw_all := lw_g (lw_at lw_m3 208 rfl) rfl
theorem q777 : (Jvm.Cond.methodLink "QuarryOrders$Quarry" (187 : Nat) ({ cls := "QuarryOrders$Quarry", name := "hasCracked", desc := "(I)Z" } : Jvm.MethodName)) ∈ lw_all := lw_g (lw_at lw_m3 209 rfl) rfl
theorem q778 : (Jvm.Cond.privateMethod ({ cls := "QuarryOrders$Quarry", name := "hasCracked", desc := "(I)Z" } : Jvm.MethodName)) ∈ lw_tbl := lw_at lw_m3 210 rfl
theorem q779 : (Jvm.Cond.instanceMethod ({ cls := "QuarryOrders$Quarry", name := "hasCracked", desc := "(I)Z" } : Jvm.MethodName)) ∈ lw_all := lw_g (lw_at lw_m3 211 rfl) rfl
theorem q780 : (Jvm.Cond.code ({ cls := "QuarryOrders$Quarry", name := "hasCracked", desc := "(I)Z" } : Jvm.MethodName) prog_4_method_17_code (5 : Nat) (Option.some Jvm.ClassFile.FieldType.boolean)) ∈ lw_all := lw_g (lw_at lw_m3 212 rfl) rfl
theorem q781 : (Jvm.Cond.methodLink "QuarryOrders$Quarry" (190 : Nat) ({ cls := "QuarryOrders$Quarry", name := "loadOf", desc := "(I)I" } : Jvm.MethodName)) ∈ lw_all := lw_g (lw_at lw_m3 213 rfl) rfl
theorem q782 : (Jvm.Cond.methodLink "QuarryOrders$Quarry" (193 : Nat) ({ cls := "QuarryOrders$Quarry", name := "axle", desc := "(IZLQuarryOrders$Block;I)F" } : Jvm.MethodName)) ∈ lw_all := lw_g (lw_at lw_m3 214 rfl) rfl
theorem q783 : (Jvm.Cond.instanceMethod ({ cls := "QuarryOrders$Quarry", name := "axle", desc := "(IZLQuarryOrders$Block;I)F" } : Jvm.MethodName)) ∈ lw_all := lw_g (lw_at lw_m3 215 rfl) rfl
theorem q784 : (Jvm.Cond.selects "QuarryOrders$Quarry" ({ cls := "QuarryOrders$Quarry", name := "axle", desc := "(IZLQuarryOrders$Block;I)F" } : Jvm.MethodName) ({ cls := "QuarryOrders$Quarry", name := "axle", desc := "(IZLQuarryOrders$Block;I)F" } : Jvm.MethodName)) ∈ lw_all := lw_g (lw_at lw_m3 216 rfl) rfl
theorem q785 : (Jvm.Cond.code ({ cls := "QuarryOrders$Quarry", name := "axle", desc := "(IZLQuarryOrders$Block;I)F" } : Jvm.MethodName) prog_4_method_16_code (8 : Nat) (Option.some Jvm.ClassFile.FieldType.float)) ∈ lw_all := lw_g (lw_at lw_m3 217 rfl) rfl
theorem q786 : (Jvm.Cond.methodLink "QuarryOrders$Quarry" (179 : Nat) ({ cls := "QuarryOrders$Quarry", name := "on", desc := "(II)LQuarryOrders$Block;" } : Jvm.MethodName)) ∈ lw_all := lw_g (lw_at lw_m3 218 rfl) rfl
theorem q787 : (Jvm.Cond.constantFloat "QuarryOrders$Quarry" (183 : Nat) (1082130432 : UInt32)) ∈ lw_all := lw_g (lw_at lw_m3 219 rfl) rfl
theorem q789 : (Jvm.Cond.instanceMethod ({ cls := "QuarryOrders$Quarry", name := "leave", desc := "(I)I" } : Jvm.MethodName)) ∈ lw_all := lw_g (lw_at lw_m3 221 rfl) rfl
theorem q790 : (Jvm.Cond.selects "QuarryOrders$Quarry" ({ cls := "QuarryOrders$Quarry", name := "leave", desc := "(I)I" } : Jvm.MethodName) ({ cls := "QuarryOrders$Quarry", name := "leave", desc := "(I)I" } : Jvm.MethodName)) ∈ lw_all := lw_g (lw_at lw_m3 222 rfl) rfl
theorem q791 : (Jvm.Cond.code ({ cls := "QuarryOrders$Quarry", name := "leave", desc := "(I)I" } : Jvm.MethodName) prog_4_method_20_code (5 : Nat) (Option.some Jvm.ClassFile.FieldType.int)) ∈ lw_all := lw_g (lw_at lw_m3 223 rfl) rfl
theorem q792 : (Jvm.Cond.methodLink "QuarryOrders$Quarry" (204 : Nat) ({ cls := "QuarryOrders$Quarry", name := "deliver", desc := "(LQuarryOrders$Block;)I" } : Jvm.MethodName)) ∈ lw_all := lw_g (lw_at lw_m3 224 rfl) rfl
theorem q793 : (Jvm.Cond.privateMethod ({ cls := "QuarryOrders$Quarry", name := "deliver", desc := "(LQuarryOrders$Block;)I" } : Jvm.MethodName)) ∈ lw_tbl := lw_at lw_m3 225 rfl
theorem q794 : (Jvm.Cond.instanceMethod ({ cls := "QuarryOrders$Quarry", name := "deliver", desc := "(LQuarryOrders$Block;)I" } : Jvm.MethodName)) ∈ lw_all := lw_g (lw_at lw_m3 226 rfl) rfl
theorem q795 : (Jvm.Cond.code ({ cls := "QuarryOrders$Quarry", name := "deliver", desc := "(LQuarryOrders$Block;)I" } : Jvm.MethodName) prog_4_method_19_code (3 : Nat) (Option.some Jvm.ClassFile.FieldType.int)) ∈ lw_all := lw_g (lw_at lw_m3 227 rfl) rfl
theorem q796 : (Jvm.Cond.interfaceEntry "QuarryOrders$Quarry" (197 : Nat)) ∈ lw_tbl := lw_at lw_m3 228 rfl
theorem q797 : (Jvm.Cond.methodLink "QuarryOrders$Quarry" (197 : Nat) ({ cls := "java/util/List", name := "get", desc := "(I)Ljava/lang/Object;" } : Jvm.MethodName)) ∈ lw_all := lw_g (lw_at lw_m3 229 rfl) rfl
theorem q811 : (Jvm.Cond.instanceMethod ({ cls := "QuarryOrders$Quarry", name := "night", desc := "(I)I" } : Jvm.MethodName)) ∈ lw_all := lw_g (lw_at lw_m4 3 rfl) rfl
theorem q812 : (Jvm.Cond.selects "QuarryOrders$Quarry" ({ cls := "QuarryOrders$Quarry", name := "night", desc := "(I)I" } : Jvm.MethodName) ({ cls := "QuarryOrders$Quarry", name := "night", desc := "(I)I" } : Jvm.MethodName)) ∈ lw_all := lw_g (lw_at lw_m4 4 rfl) rfl
theorem q813 : (Jvm.Cond.code ({ cls := "QuarryOrders$Quarry", name := "night", desc := "(I)I" } : Jvm.MethodName) prog_4_method_22_code (6 : Nat) (Option.some Jvm.ClassFile.FieldType.int)) ∈ lw_all := lw_g (lw_at lw_m4 5 rfl) rfl
theorem q814 : (Jvm.Cond.methodLink "QuarryOrders$Quarry" (208 : Nat) ({ cls := "QuarryOrders$Quarry", name := "isCracking", desc := "(LQuarryOrders$Block;)Z" } : Jvm.MethodName)) ∈ lw_all := lw_g (lw_at lw_m4 6 rfl) rfl
theorem q815 : (Jvm.Cond.instanceMethod ({ cls := "QuarryOrders$Quarry", name := "isCracking", desc := "(LQuarryOrders$Block;)Z" } : Jvm.MethodName)) ∈ lw_all := lw_g (lw_at lw_m4 7 rfl) rfl
theorem q816 : (Jvm.Cond.selects "QuarryOrders$Quarry" ({ cls := "QuarryOrders$Quarry", name := "isCracking", desc := "(LQuarryOrders$Block;)Z" } : Jvm.MethodName) ({ cls := "QuarryOrders$Quarry", name := "isCracking", desc := "(LQuarryOrders$Block;)Z" } : Jvm.MethodName)) ∈ lw_all := lw_g (lw_at lw_m4 8 rfl) rfl
theorem q817 : (Jvm.Cond.code ({ cls := "QuarryOrders$Quarry", name := "isCracking", desc := "(LQuarryOrders$Block;)Z" } : Jvm.MethodName) prog_4_method_21_code (2 : Nat) (Option.some Jvm.ClassFile.FieldType.boolean)) ∈ lw_all := lw_g (lw_at lw_m4 9 rfl) rfl
theorem q818 : (Jvm.Cond.methodLink "QuarryOrders$Quarry" (212 : Nat) ({ cls := "java/lang/Math", name := "max", desc := "(II)I" } : Jvm.MethodName)) ∈ lw_all := lw_g (lw_at lw_m4 10 rfl) rfl
theorem q830 : (Jvm.Cond.instanceMethod ({ cls := "QuarryOrders$Quarry", name := "fitting", desc := "(LQuarryOrders$Order;)I" } : Jvm.MethodName)) ∈ lw_all := lw_g (lw_at lw_m4 22 rfl) rfl
theorem q831 : (Jvm.Cond.selects "QuarryOrders$Quarry" ({ cls := "QuarryOrders$Quarry", name := "fitting", desc := "(LQuarryOrders$Order;)I" } : Jvm.MethodName) ({ cls := "QuarryOrders$Quarry", name := "fitting", desc := "(LQuarryOrders$Order;)I" } : Jvm.MethodName)) ∈ lw_all := lw_g (lw_at lw_m4 23 rfl) rfl
theorem q832 : (Jvm.Cond.code ({ cls := "QuarryOrders$Quarry", name := "fitting", desc := "(LQuarryOrders$Order;)I" } : Jvm.MethodName) prog_4_method_11_code (5 : Nat) (Option.some Jvm.ClassFile.FieldType.int)) ∈ lw_all := lw_g (lw_at lw_m4 24 rfl) rfl
theorem q833 : (Jvm.Cond.methodLink "QuarryOrders$Quarry" (169 : Nat) ({ cls := "QuarryOrders$Quarry", name := "over", desc := "(LQuarryOrders$Order;LQuarryOrders$Block;)I" } : Jvm.MethodName)) ∈ lw_all := lw_g (lw_at lw_m4 25 rfl) rfl
theorem q856 : (Jvm.Cond.instanceMethod ({ cls := "QuarryOrders$Quarry", name := "cracked", desc := "()I" } : Jvm.MethodName)) ∈ lw_all := lw_g (lw_at lw_m4 48 rfl) rfl
theorem q857 : (Jvm.Cond.selects "QuarryOrders$Quarry" ({ cls := "QuarryOrders$Quarry", name := "cracked", desc := "()I" } : Jvm.MethodName) ({ cls := "QuarryOrders$Quarry", name := "cracked", desc := "()I" } : Jvm.MethodName)) ∈ lw_all := lw_g (lw_at lw_m4 49 rfl) rfl
theorem q858 : (Jvm.Cond.code ({ cls := "QuarryOrders$Quarry", name := "cracked", desc := "()I" } : Jvm.MethodName) prog_4_method_23_code (4 : Nat) (Option.some Jvm.ClassFile.FieldType.int)) ∈ lw_all := lw_g (lw_at lw_m4 50 rfl) rfl
theorem q860 : (Jvm.Cond.instanceMethod ({ cls := "QuarryOrders$Quarry", name := "uncut", desc := "(Z)I" } : Jvm.MethodName)) ∈ lw_all := lw_g (lw_at lw_m4 52 rfl) rfl
theorem q861 : (Jvm.Cond.selects "QuarryOrders$Quarry" ({ cls := "QuarryOrders$Quarry", name := "uncut", desc := "(Z)I" } : Jvm.MethodName) ({ cls := "QuarryOrders$Quarry", name := "uncut", desc := "(Z)I" } : Jvm.MethodName)) ∈ lw_all := lw_g (lw_at lw_m4 53 rfl) rfl
theorem q862 : (Jvm.Cond.code ({ cls := "QuarryOrders$Quarry", name := "uncut", desc := "(Z)I" } : Jvm.MethodName) prog_4_method_24_code (5 : Nat) (Option.some Jvm.ClassFile.FieldType.int)) ∈ lw_all := lw_g (lw_at lw_m4 54 rfl) rfl
theorem q893 : (Jvm.Cond.instanceMethod ({ cls := "QuarryOrders$Quarry", name := "bestBlock", desc := "(LQuarryOrders$Order;)I" } : Jvm.MethodName)) ∈ lw_all := lw_g (lw_at lw_m4 85 rfl) rfl
theorem q894 : (Jvm.Cond.selects "QuarryOrders$Quarry" ({ cls := "QuarryOrders$Quarry", name := "bestBlock", desc := "(LQuarryOrders$Order;)I" } : Jvm.MethodName) ({ cls := "QuarryOrders$Quarry", name := "bestBlock", desc := "(LQuarryOrders$Order;)I" } : Jvm.MethodName)) ∈ lw_all := lw_g (lw_at lw_m4 86 rfl) rfl
theorem q895 : (Jvm.Cond.code ({ cls := "QuarryOrders$Quarry", name := "bestBlock", desc := "(LQuarryOrders$Order;)I" } : Jvm.MethodName) prog_4_method_12_code (8 : Nat) (Option.some Jvm.ClassFile.FieldType.int)) ∈ lw_all := lw_g (lw_at lw_m4 87 rfl) rfl
theorem q1604 : (Jvm.Cond.castable "QuarryOrders$Quarry" "java/lang/Object") ∈ lw_tbl := lw_at lw_m7 76 rfl
theorem in_X1 : ∀ w ∈ wsX10, w ∈ lw_all := lw_in wsX10 [199, 201, 203, 205, 207, 209, 211, 213, 215, 217, 219, 221, 223] (by decide +kernel) (by decide +kernel)

/-! QuarryOrders$Block -/
set_option maxRecDepth 100000
def RX3 : String := "QuarryOrders$Block"
def TX3 : u_T := fun k => match k with
  | 0 => ("QuarryOrders$Block", "number", "I", true)
  | 1 => ("QuarryOrders$Block", "sizes", "LQuarryOrders$Sizes;", true)
  | 2 => ("QuarryOrders$Block", "density", "I", true)
  | 3 => ("QuarryOrders$Block", "from", "I", true)
  | 4 => ("QuarryOrders$Block", "where", "I", false)
  | 5 => ("QuarryOrders$Block", "wet", "I", false)
  | 6 => ("QuarryOrders$Block", "order", "I", false)
  | 7 => ("QuarryOrders$Block", "place", "I", false)
  | _ => ("QuarryOrders$Block", "cracked", "Z", false)
def tyX3 : Nat → FieldType := fun k => match k with
  | 0 => .int
  | 1 => .object "QuarryOrders$Sizes"
  | 2 => .int
  | 3 => .int
  | 4 => .int
  | 5 => .int
  | 6 => .int
  | 7 => .int
  | _ => .boolean
abbrev wsX30 : List Cond := u_ws RX3 TX3 9
theorem nmX3 : ∀ a, a < 9 → ∀ b, b < 9 → a ≠ b → (TX3 a).2.1 ≠ (TX3 b).2.1 := by decide +kernel
theorem tyX3_ok : ∀ k, k < 9 → parseFieldDescriptor (TX3 k).2.2.1 = some (tyX3 k) := by decide +kernel
abbrev cX3_init : ByteArray := prog_2_method_3_code
def yX3_init : MethodName := ⟨RX3, "<init>", "(LQuarryOrders$Block;)V"⟩
def dkwX3_init_2 : List UInt8 := [42, 43, 180, 0, 40, 181, 0, 40, 177]
abbrev dktX3_init_2 : List UInt8 := dkwX3_init_2 ++ []
def dkwX3_init_1 : List UInt8 := [42, 43, 180, 0, 37, 181, 0, 37, 42, 43, 180, 0, 14, 181, 0, 14, 42, 43, 180, 0, 18, 181, 0, 18]
abbrev dktX3_init_1 : List UInt8 := dkwX3_init_1 ++ dktX3_init_2
def dkwX3_init_0 : List UInt8 := [42, 43, 180, 0, 21, 43, 180, 0, 24, 43, 180, 0, 28, 43, 180, 0, 31, 43, 180, 0, 34, 183, 0, 3]
abbrev dktX3_init_0 : List UInt8 := dkwX3_init_0 ++ dktX3_init_1
theorem dksX3_init_0 : cX3_init.data.toList.drop 0 = dktX3_init_0 := by decide +kernel
theorem dksX3_init_1 : cX3_init.data.toList.drop 24 = dktX3_init_1 := dk_seg dksX3_init_0 24 rfl rfl
theorem dksX3_init_2 : cX3_init.data.toList.drop 48 = dktX3_init_2 := dk_seg dksX3_init_1 24 rfl rfl
theorem dX3_init_0 : decode cX3_init 0 = .ok (.aload_n 0, 1) := dk_42 (dk_at dksX3_init_0 0 rfl rfl)
theorem dX3_init_1 : decode cX3_init 1 = .ok (.aload_n 1, 1) := dk_43 (dk_at dksX3_init_0 1 rfl rfl)
theorem dX3_init_2 : decode cX3_init 2 = .ok (.getfield 21, 3) := dk_180 0 21 (dk_at dksX3_init_0 2 rfl rfl)
theorem dX3_init_5 : decode cX3_init 5 = .ok (.aload_n 1, 1) := dk_43 (dk_at dksX3_init_0 5 rfl rfl)
theorem dX3_init_6 : decode cX3_init 6 = .ok (.getfield 24, 3) := dk_180 0 24 (dk_at dksX3_init_0 6 rfl rfl)
theorem dX3_init_9 : decode cX3_init 9 = .ok (.aload_n 1, 1) := dk_43 (dk_at dksX3_init_0 9 rfl rfl)
theorem dX3_init_10 : decode cX3_init 10 = .ok (.getfield 28, 3) := dk_180 0 28 (dk_at dksX3_init_0 10 rfl rfl)
theorem dX3_init_13 : decode cX3_init 13 = .ok (.aload_n 1, 1) := dk_43 (dk_at dksX3_init_0 13 rfl rfl)
theorem dX3_init_14 : decode cX3_init 14 = .ok (.getfield 31, 3) := dk_180 0 31 (dk_at dksX3_init_0 14 rfl rfl)
theorem dX3_init_17 : decode cX3_init 17 = .ok (.aload_n 1, 1) := dk_43 (dk_at dksX3_init_0 17 rfl rfl)
theorem dX3_init_18 : decode cX3_init 18 = .ok (.getfield 34, 3) := dk_180 0 34 (dk_at dksX3_init_0 18 rfl rfl)
theorem dX3_init_21 : decode cX3_init 21 = .ok (.invokespecial 3, 3) := dk_183 0 3 (dk_at dksX3_init_0 21 rfl rfl)
theorem dX3_init_24 : decode cX3_init 24 = .ok (.aload_n 0, 1) := dk_42 (dk_at dksX3_init_1 0 rfl rfl)
theorem dX3_init_25 : decode cX3_init 25 = .ok (.aload_n 1, 1) := dk_43 (dk_at dksX3_init_1 1 rfl rfl)
theorem dX3_init_26 : decode cX3_init 26 = .ok (.getfield 37, 3) := dk_180 0 37 (dk_at dksX3_init_1 2 rfl rfl)
theorem dX3_init_29 : decode cX3_init 29 = .ok (.putfield 37, 3) := dk_181 0 37 (dk_at dksX3_init_1 5 rfl rfl)
theorem dX3_init_32 : decode cX3_init 32 = .ok (.aload_n 0, 1) := dk_42 (dk_at dksX3_init_1 8 rfl rfl)
theorem dX3_init_33 : decode cX3_init 33 = .ok (.aload_n 1, 1) := dk_43 (dk_at dksX3_init_1 9 rfl rfl)
theorem dX3_init_34 : decode cX3_init 34 = .ok (.getfield 14, 3) := dk_180 0 14 (dk_at dksX3_init_1 10 rfl rfl)
theorem dX3_init_37 : decode cX3_init 37 = .ok (.putfield 14, 3) := dk_181 0 14 (dk_at dksX3_init_1 13 rfl rfl)
theorem dX3_init_40 : decode cX3_init 40 = .ok (.aload_n 0, 1) := dk_42 (dk_at dksX3_init_1 16 rfl rfl)
theorem dX3_init_41 : decode cX3_init 41 = .ok (.aload_n 1, 1) := dk_43 (dk_at dksX3_init_1 17 rfl rfl)
theorem dX3_init_42 : decode cX3_init 42 = .ok (.getfield 18, 3) := dk_180 0 18 (dk_at dksX3_init_1 18 rfl rfl)
theorem dX3_init_45 : decode cX3_init 45 = .ok (.putfield 18, 3) := dk_181 0 18 (dk_at dksX3_init_1 21 rfl rfl)
theorem dX3_init_48 : decode cX3_init 48 = .ok (.aload_n 0, 1) := dk_42 (dk_at dksX3_init_2 0 rfl rfl)
theorem dX3_init_49 : decode cX3_init 49 = .ok (.aload_n 1, 1) := dk_43 (dk_at dksX3_init_2 1 rfl rfl)
theorem dX3_init_50 : decode cX3_init 50 = .ok (.getfield 40, 3) := dk_180 0 40 (dk_at dksX3_init_2 2 rfl rfl)
theorem dX3_init_53 : decode cX3_init 53 = .ok (.putfield 40, 3) := dk_181 0 40 (dk_at dksX3_init_2 5 rfl rfl)
theorem dX3_init_56 : decode cX3_init 56 = .ok (.return_, 1) := dk_177 (dk_at dksX3_init_2 8 rfl rfl)
abbrev cX3_init_2 : ByteArray := prog_2_method_2_code
def yX3_init_2 : MethodName := ⟨RX3, "<init>", "(ILQuarryOrders$Sizes;III)V"⟩
def dkwX3_init_2_1 : List UInt8 := [181, 0, 24, 42, 29, 181, 0, 28, 42, 21, 4, 181, 0, 31, 42, 21, 5, 181, 0, 34, 177]
abbrev dktX3_init_2_1 : List UInt8 := dkwX3_init_2_1 ++ []
def dkwX3_init_2_0 : List UInt8 := [42, 183, 0, 9, 42, 16, 250, 181, 0, 14, 42, 16, 250, 181, 0, 18, 42, 27, 181, 0, 21, 42, 44]
abbrev dktX3_init_2_0 : List UInt8 := dkwX3_init_2_0 ++ dktX3_init_2_1
theorem dksX3_init_2_0 : cX3_init_2.data.toList.drop 0 = dktX3_init_2_0 := by decide +kernel
theorem dksX3_init_2_1 : cX3_init_2.data.toList.drop 23 = dktX3_init_2_1 := dk_seg dksX3_init_2_0 23 rfl rfl
theorem dX3_init_2_0 : decode cX3_init_2 0 = .ok (.aload_n 0, 1) := dk_42 (dk_at dksX3_init_2_0 0 rfl rfl)
theorem dX3_init_2_1 : decode cX3_init_2 1 = .ok (.invokespecial 9, 3) := dk_183 0 9 (dk_at dksX3_init_2_0 1 rfl rfl)
theorem dX3_init_2_4 : decode cX3_init_2 4 = .ok (.aload_n 0, 1) := dk_42 (dk_at dksX3_init_2_0 4 rfl rfl)
theorem dX3_init_2_5 : decode cX3_init_2 5 = .ok (.bipush (-6), 2) := dk_16 250 (dk_at dksX3_init_2_0 5 rfl rfl)
theorem dX3_init_2_7 : decode cX3_init_2 7 = .ok (.putfield 14, 3) := dk_181 0 14 (dk_at dksX3_init_2_0 7 rfl rfl)
theorem dX3_init_2_10 : decode cX3_init_2 10 = .ok (.aload_n 0, 1) := dk_42 (dk_at dksX3_init_2_0 10 rfl rfl)
theorem dX3_init_2_11 : decode cX3_init_2 11 = .ok (.bipush (-6), 2) := dk_16 250 (dk_at dksX3_init_2_0 11 rfl rfl)
theorem dX3_init_2_13 : decode cX3_init_2 13 = .ok (.putfield 18, 3) := dk_181 0 18 (dk_at dksX3_init_2_0 13 rfl rfl)
theorem dX3_init_2_16 : decode cX3_init_2 16 = .ok (.aload_n 0, 1) := dk_42 (dk_at dksX3_init_2_0 16 rfl rfl)
theorem dX3_init_2_17 : decode cX3_init_2 17 = .ok (.iload_n 1, 1) := dk_27 (dk_at dksX3_init_2_0 17 rfl rfl)
theorem dX3_init_2_18 : decode cX3_init_2 18 = .ok (.putfield 21, 3) := dk_181 0 21 (dk_at dksX3_init_2_0 18 rfl rfl)
theorem dX3_init_2_21 : decode cX3_init_2 21 = .ok (.aload_n 0, 1) := dk_42 (dk_at dksX3_init_2_0 21 rfl rfl)
theorem dX3_init_2_22 : decode cX3_init_2 22 = .ok (.aload_n 2, 1) := dk_44 (dk_at dksX3_init_2_0 22 rfl rfl)
theorem dX3_init_2_23 : decode cX3_init_2 23 = .ok (.putfield 24, 3) := dk_181 0 24 (dk_at dksX3_init_2_1 0 rfl rfl)
theorem dX3_init_2_26 : decode cX3_init_2 26 = .ok (.aload_n 0, 1) := dk_42 (dk_at dksX3_init_2_1 3 rfl rfl)
theorem dX3_init_2_27 : decode cX3_init_2 27 = .ok (.iload_n 3, 1) := dk_29 (dk_at dksX3_init_2_1 4 rfl rfl)
theorem dX3_init_2_28 : decode cX3_init_2 28 = .ok (.putfield 28, 3) := dk_181 0 28 (dk_at dksX3_init_2_1 5 rfl rfl)
theorem dX3_init_2_31 : decode cX3_init_2 31 = .ok (.aload_n 0, 1) := dk_42 (dk_at dksX3_init_2_1 8 rfl rfl)
theorem dX3_init_2_32 : decode cX3_init_2 32 = .ok (.iload 4, 2) := dk_21 4 (dk_at dksX3_init_2_1 9 rfl rfl)
theorem dX3_init_2_34 : decode cX3_init_2 34 = .ok (.putfield 31, 3) := dk_181 0 31 (dk_at dksX3_init_2_1 11 rfl rfl)
theorem dX3_init_2_37 : decode cX3_init_2 37 = .ok (.aload_n 0, 1) := dk_42 (dk_at dksX3_init_2_1 14 rfl rfl)
theorem dX3_init_2_38 : decode cX3_init_2 38 = .ok (.iload 5, 2) := dk_21 5 (dk_at dksX3_init_2_1 15 rfl rfl)
theorem dX3_init_2_40 : decode cX3_init_2 40 = .ok (.putfield 34, 3) := dk_181 0 34 (dk_at dksX3_init_2_1 17 rfl rfl)
theorem dX3_init_2_43 : decode cX3_init_2 43 = .ok (.return_, 1) := dk_177 (dk_at dksX3_init_2_1 20 rfl rfl)
abbrev cX3_init_3 : ByteArray := prog_2_method_1_code
def yX3_init_3 : MethodName := ⟨RX3, "<init>", "(ILQuarryOrders$Sizes;I)V"⟩
def dkwX3_init_3_0 : List UInt8 := [42, 27, 44, 29, 16, 250, 6, 183, 0, 3, 177]
abbrev dktX3_init_3_0 : List UInt8 := dkwX3_init_3_0 ++ []
theorem dksX3_init_3_0 : cX3_init_3.data.toList.drop 0 = dktX3_init_3_0 := by decide +kernel
theorem dX3_init_3_0 : decode cX3_init_3 0 = .ok (.aload_n 0, 1) := dk_42 (dk_at dksX3_init_3_0 0 rfl rfl)
theorem dX3_init_3_1 : decode cX3_init_3 1 = .ok (.iload_n 1, 1) := dk_27 (dk_at dksX3_init_3_0 1 rfl rfl)
theorem dX3_init_3_2 : decode cX3_init_3 2 = .ok (.aload_n 2, 1) := dk_44 (dk_at dksX3_init_3_0 2 rfl rfl)
theorem dX3_init_3_3 : decode cX3_init_3 3 = .ok (.iload_n 3, 1) := dk_29 (dk_at dksX3_init_3_0 3 rfl rfl)
theorem dX3_init_3_4 : decode cX3_init_3 4 = .ok (.bipush (-6), 2) := dk_16 250 (dk_at dksX3_init_3_0 4 rfl rfl)
theorem dX3_init_3_6 : decode cX3_init_3 6 = .ok (.iconst 3, 1) := dk_6 (dk_at dksX3_init_3_0 6 rfl rfl)
theorem dX3_init_3_7 : decode cX3_init_3 7 = .ok (.invokespecial 3, 3) := dk_183 0 3 (dk_at dksX3_init_3_0 7 rfl rfl)
theorem dX3_init_3_10 : decode cX3_init_3 10 = .ok (.return_, 1) := dk_177 (dk_at dksX3_init_3_0 10 rfl rfl)
abbrev cX3_weight : ByteArray := prog_2_method_4_code
def yX3_weight : MethodName := ⟨RX3, "weight", "()I"⟩
def dkwX3_weight_0 : List UInt8 := [42, 180, 0, 24, 42, 180, 0, 28, 182, 0, 44, 172]
abbrev dktX3_weight_0 : List UInt8 := dkwX3_weight_0 ++ []
theorem dksX3_weight_0 : cX3_weight.data.toList.drop 0 = dktX3_weight_0 := by decide +kernel
theorem dX3_weight_0 : decode cX3_weight 0 = .ok (.aload_n 0, 1) := dk_42 (dk_at dksX3_weight_0 0 rfl rfl)
theorem dX3_weight_1 : decode cX3_weight 1 = .ok (.getfield 24, 3) := dk_180 0 24 (dk_at dksX3_weight_0 1 rfl rfl)
theorem dX3_weight_4 : decode cX3_weight 4 = .ok (.aload_n 0, 1) := dk_42 (dk_at dksX3_weight_0 4 rfl rfl)
theorem dX3_weight_5 : decode cX3_weight 5 = .ok (.getfield 28, 3) := dk_180 0 28 (dk_at dksX3_weight_0 5 rfl rfl)
theorem dX3_weight_8 : decode cX3_weight 8 = .ok (.invokevirtual 44, 3) := dk_182 0 44 (dk_at dksX3_weight_0 8 rfl rfl)
theorem dX3_weight_11 : decode cX3_weight 11 = .ok (.ireturn, 1) := dk_172 (dk_at dksX3_weight_0 11 rfl rfl)
abbrev cX3_isAtHand : ByteArray := prog_2_method_5_code
def yX3_isAtHand : MethodName := ⟨RX3, "isAtHand", "()Z"⟩
def dkwX3_isAtHand_0 : List UInt8 := [42, 180, 0, 37, 153, 0, 11, 42, 180, 0, 37, 4, 160, 0, 7, 4, 167, 0, 4, 3, 172]
abbrev dktX3_isAtHand_0 : List UInt8 := dkwX3_isAtHand_0 ++ []
theorem dksX3_isAtHand_0 : cX3_isAtHand.data.toList.drop 0 = dktX3_isAtHand_0 := by decide +kernel
theorem dX3_isAtHand_0 : decode cX3_isAtHand 0 = .ok (.aload_n 0, 1) := dk_42 (dk_at dksX3_isAtHand_0 0 rfl rfl)
theorem dX3_isAtHand_1 : decode cX3_isAtHand 1 = .ok (.getfield 37, 3) := dk_180 0 37 (dk_at dksX3_isAtHand_0 1 rfl rfl)
theorem dX3_isAtHand_4 : decode cX3_isAtHand 4 = .ok (.ifCond .eq 11, 3) := dk_153 0 11 (dk_at dksX3_isAtHand_0 4 rfl rfl)
theorem dX3_isAtHand_7 : decode cX3_isAtHand 7 = .ok (.aload_n 0, 1) := dk_42 (dk_at dksX3_isAtHand_0 7 rfl rfl)
theorem dX3_isAtHand_8 : decode cX3_isAtHand 8 = .ok (.getfield 37, 3) := dk_180 0 37 (dk_at dksX3_isAtHand_0 8 rfl rfl)
theorem dX3_isAtHand_11 : decode cX3_isAtHand 11 = .ok (.iconst 1, 1) := dk_4 (dk_at dksX3_isAtHand_0 11 rfl rfl)
theorem dX3_isAtHand_12 : decode cX3_isAtHand 12 = .ok (.if_icmp .ne 7, 3) := dk_160 0 7 (dk_at dksX3_isAtHand_0 12 rfl rfl)
theorem dX3_isAtHand_15 : decode cX3_isAtHand 15 = .ok (.iconst 1, 1) := dk_4 (dk_at dksX3_isAtHand_0 15 rfl rfl)
theorem dX3_isAtHand_16 : decode cX3_isAtHand 16 = .ok (.goto 4, 3) := dk_167 0 4 (dk_at dksX3_isAtHand_0 16 rfl rfl)
theorem dX3_isAtHand_19 : decode cX3_isAtHand 19 = .ok (.iconst 0, 1) := dk_3 (dk_at dksX3_isAtHand_0 19 rfl rfl)
theorem dX3_isAtHand_20 : decode cX3_isAtHand 20 = .ok (.ireturn, 1) := dk_172 (dk_at dksX3_isAtHand_0 20 rfl rfl)
abbrev cX3_isHere : ByteArray := prog_2_method_6_code
def yX3_isHere : MethodName := ⟨RX3, "isHere", "()Z"⟩
def dkwX3_isHere_0 : List UInt8 := [42, 180, 0, 37, 5, 163, 0, 7, 4, 167, 0, 4, 3, 172]
abbrev dktX3_isHere_0 : List UInt8 := dkwX3_isHere_0 ++ []
theorem dksX3_isHere_0 : cX3_isHere.data.toList.drop 0 = dktX3_isHere_0 := by decide +kernel
theorem dX3_isHere_0 : decode cX3_isHere 0 = .ok (.aload_n 0, 1) := dk_42 (dk_at dksX3_isHere_0 0 rfl rfl)
theorem dX3_isHere_1 : decode cX3_isHere 1 = .ok (.getfield 37, 3) := dk_180 0 37 (dk_at dksX3_isHere_0 1 rfl rfl)
theorem dX3_isHere_4 : decode cX3_isHere 4 = .ok (.iconst 2, 1) := dk_5 (dk_at dksX3_isHere_0 4 rfl rfl)
theorem dX3_isHere_5 : decode cX3_isHere 5 = .ok (.if_icmp .gt 7, 3) := dk_163 0 7 (dk_at dksX3_isHere_0 5 rfl rfl)
theorem dX3_isHere_8 : decode cX3_isHere 8 = .ok (.iconst 1, 1) := dk_4 (dk_at dksX3_isHere_0 8 rfl rfl)
theorem dX3_isHere_9 : decode cX3_isHere 9 = .ok (.goto 4, 3) := dk_167 0 4 (dk_at dksX3_isHere_0 9 rfl rfl)
theorem dX3_isHere_12 : decode cX3_isHere 12 = .ok (.iconst 0, 1) := dk_3 (dk_at dksX3_isHere_0 12 rfl rfl)
theorem dX3_isHere_13 : decode cX3_isHere 13 = .ok (.ireturn, 1) := dk_172 (dk_at dksX3_isHere_0 13 rfl rfl)
abbrev cX3_isOn : ByteArray := prog_2_method_7_code
def yX3_isOn : MethodName := ⟨RX3, "isOn", "(I)Z"⟩
def dkwX3_isOn_0 : List UInt8 := [42, 180, 0, 37, 5, 160, 0, 17, 42, 180, 0, 18, 8, 108, 27, 160, 0, 7, 4, 167, 0, 4, 3, 172]
abbrev dktX3_isOn_0 : List UInt8 := dkwX3_isOn_0 ++ []
theorem dksX3_isOn_0 : cX3_isOn.data.toList.drop 0 = dktX3_isOn_0 := by decide +kernel
theorem dX3_isOn_0 : decode cX3_isOn 0 = .ok (.aload_n 0, 1) := dk_42 (dk_at dksX3_isOn_0 0 rfl rfl)
theorem dX3_isOn_1 : decode cX3_isOn 1 = .ok (.getfield 37, 3) := dk_180 0 37 (dk_at dksX3_isOn_0 1 rfl rfl)
theorem dX3_isOn_4 : decode cX3_isOn 4 = .ok (.iconst 2, 1) := dk_5 (dk_at dksX3_isOn_0 4 rfl rfl)
theorem dX3_isOn_5 : decode cX3_isOn 5 = .ok (.if_icmp .ne 17, 3) := dk_160 0 17 (dk_at dksX3_isOn_0 5 rfl rfl)
theorem dX3_isOn_8 : decode cX3_isOn 8 = .ok (.aload_n 0, 1) := dk_42 (dk_at dksX3_isOn_0 8 rfl rfl)
theorem dX3_isOn_9 : decode cX3_isOn 9 = .ok (.getfield 18, 3) := dk_180 0 18 (dk_at dksX3_isOn_0 9 rfl rfl)
theorem dX3_isOn_12 : decode cX3_isOn 12 = .ok (.iconst 5, 1) := dk_8 (dk_at dksX3_isOn_0 12 rfl rfl)
theorem dX3_isOn_13 : decode cX3_isOn 13 = .ok (.idiv, 1) := dk_108 (dk_at dksX3_isOn_0 13 rfl rfl)
theorem dX3_isOn_14 : decode cX3_isOn 14 = .ok (.iload_n 1, 1) := dk_27 (dk_at dksX3_isOn_0 14 rfl rfl)
theorem dX3_isOn_15 : decode cX3_isOn 15 = .ok (.if_icmp .ne 7, 3) := dk_160 0 7 (dk_at dksX3_isOn_0 15 rfl rfl)
theorem dX3_isOn_18 : decode cX3_isOn 18 = .ok (.iconst 1, 1) := dk_4 (dk_at dksX3_isOn_0 18 rfl rfl)
theorem dX3_isOn_19 : decode cX3_isOn 19 = .ok (.goto 4, 3) := dk_167 0 4 (dk_at dksX3_isOn_0 19 rfl rfl)
theorem dX3_isOn_22 : decode cX3_isOn 22 = .ok (.iconst 0, 1) := dk_3 (dk_at dksX3_isOn_0 22 rfl rfl)
theorem dX3_isOn_23 : decode cX3_isOn 23 = .ok (.ireturn, 1) := dk_172 (dk_at dksX3_isOn_0 23 rfl rfl)
theorem q103 : (Jvm.Cond.initialized "QuarryOrders$Block") ∈ lw_all := lw_g (lw_at lw_m1 15 rfl) rfl
theorem q384 : (Jvm.Cond.instantiable "QuarryOrders$Block" (9 : Nat)) ∈ lw_all := lw_g (lw_at lw_m2 56 rfl) rfl
theorem q386 : (Jvm.Cond.instanceMethod ({ cls := "QuarryOrders$Block", name := "<init>", desc := "(LQuarryOrders$Block;)V" } : Jvm.MethodName)) ∈ lw_all := lw_g (lw_at lw_m2 58 rfl) rfl
theorem q387 : (Jvm.Cond.code ({ cls := "QuarryOrders$Block", name := "<init>", desc := "(LQuarryOrders$Block;)V" } : Jvm.MethodName) prog_2_method_3_code (2 : Nat) (Option.none : Option Jvm.ClassFile.FieldType)) ∈ lw_all := lw_g (lw_at lw_m2 59 rfl) rfl
theorem q388 : (Jvm.Cond.methodLink "QuarryOrders$Block" (3 : Nat) ({ cls := "QuarryOrders$Block", name := "<init>", desc := "(ILQuarryOrders$Sizes;III)V" } : Jvm.MethodName)) ∈ lw_all := lw_g (lw_at lw_m2 60 rfl) rfl
theorem q389 : (Jvm.Cond.instanceMethod ({ cls := "QuarryOrders$Block", name := "<init>", desc := "(ILQuarryOrders$Sizes;III)V" } : Jvm.MethodName)) ∈ lw_all := lw_g (lw_at lw_m2 61 rfl) rfl
theorem q390 : (Jvm.Cond.code ({ cls := "QuarryOrders$Block", name := "<init>", desc := "(ILQuarryOrders$Sizes;III)V" } : Jvm.MethodName) prog_2_method_2_code (6 : Nat) (Option.none : Option Jvm.ClassFile.FieldType)) ∈ lw_all := lw_g (lw_at lw_m2 62 rfl) rfl
theorem q391 : (Jvm.Cond.methodLink "QuarryOrders$Block" (9 : Nat) ({ cls := "java/lang/Object", name := "<init>", desc := "()V" } : Jvm.MethodName)) ∈ lw_all := lw_g (lw_at lw_m2 63 rfl) rfl
theorem q392 : (Jvm.Cond.fieldLink "QuarryOrders$Block" (21 : Nat) "QuarryOrders$Block" "number" "I") ∈ lw_all := lw_g (lw_at lw_m2 64 rfl) rfl
theorem q395 : (Jvm.Cond.fieldLink "QuarryOrders$Block" (24 : Nat) "QuarryOrders$Block" "sizes" "LQuarryOrders$Sizes;") ∈ lw_all := lw_g (lw_at lw_m2 67 rfl) rfl
theorem q398 : (Jvm.Cond.fieldLink "QuarryOrders$Block" (28 : Nat) "QuarryOrders$Block" "density" "I") ∈ lw_all := lw_g (lw_at lw_m2 70 rfl) rfl
theorem q401 : (Jvm.Cond.fieldLink "QuarryOrders$Block" (31 : Nat) "QuarryOrders$Block" "from" "I") ∈ lw_all := lw_g (lw_at lw_m2 73 rfl) rfl
theorem q403 : (Jvm.Cond.fieldLink "QuarryOrders$Block" (37 : Nat) "QuarryOrders$Block" "where" "I") ∈ lw_all := lw_g (lw_at lw_m2 75 rfl) rfl
theorem q406 : (Jvm.Cond.fieldLink "QuarryOrders$Block" (34 : Nat) "QuarryOrders$Block" "wet" "I") ∈ lw_all := lw_g (lw_at lw_m2 78 rfl) rfl
theorem q409 : (Jvm.Cond.fieldLink "QuarryOrders$Block" (14 : Nat) "QuarryOrders$Block" "order" "I") ∈ lw_all := lw_g (lw_at lw_m2 81 rfl) rfl
theorem q412 : (Jvm.Cond.fieldLink "QuarryOrders$Block" (18 : Nat) "QuarryOrders$Block" "place" "I") ∈ lw_all := lw_g (lw_at lw_m2 84 rfl) rfl
theorem q415 : (Jvm.Cond.fieldLink "QuarryOrders$Block" (40 : Nat) "QuarryOrders$Block" "cracked" "Z") ∈ lw_all := lw_g (lw_at lw_m2 87 rfl) rfl
theorem q418 : (Jvm.Cond.laysFinal "QuarryOrders$Block" "QuarryOrders$Block" "number" "I") ∈ lw_all := lw_g (lw_at lw_m2 90 rfl) rfl
theorem q419 : (Jvm.Cond.soleField "QuarryOrders$Block" "number") ∈ lw_all := lw_g (lw_at lw_m2 91 rfl) rfl
theorem q420 : (Jvm.Cond.laysFinal "QuarryOrders$Block" "QuarryOrders$Block" "sizes" "LQuarryOrders$Sizes;") ∈ lw_all := lw_g (lw_at lw_m2 92 rfl) rfl
theorem q421 : (Jvm.Cond.soleField "QuarryOrders$Block" "sizes") ∈ lw_all := lw_g (lw_at lw_m2 93 rfl) rfl
theorem q422 : (Jvm.Cond.laysFinal "QuarryOrders$Block" "QuarryOrders$Block" "density" "I") ∈ lw_all := lw_g (lw_at lw_m2 94 rfl) rfl
theorem q423 : (Jvm.Cond.soleField "QuarryOrders$Block" "density") ∈ lw_all := lw_g (lw_at lw_m2 95 rfl) rfl
theorem q424 : (Jvm.Cond.laysFinal "QuarryOrders$Block" "QuarryOrders$Block" "from" "I") ∈ lw_all := lw_g (lw_at lw_m2 96 rfl) rfl
theorem q425 : (Jvm.Cond.soleField "QuarryOrders$Block" "from") ∈ lw_all := lw_g (lw_at lw_m2 97 rfl) rfl
theorem q426 : (Jvm.Cond.lays "QuarryOrders$Block" "QuarryOrders$Block" "where" "I") ∈ lw_all := lw_g (lw_at lw_m2 98 rfl) rfl
theorem q427 : (Jvm.Cond.soleField "QuarryOrders$Block" "where") ∈ lw_all := lw_g (lw_at lw_m2 99 rfl) rfl
theorem q428 : (Jvm.Cond.lays "QuarryOrders$Block" "QuarryOrders$Block" "wet" "I") ∈ lw_all := lw_g (lw_at lw_m2 100 rfl) rfl
theorem q429 : (Jvm.Cond.soleField "QuarryOrders$Block" "wet") ∈ lw_all := lw_g (lw_at lw_m2 101 rfl) rfl
theorem q430 : (Jvm.Cond.lays "QuarryOrders$Block" "QuarryOrders$Block" "order" "I") ∈ lw_all := lw_g (lw_at lw_m2 102 rfl) rfl
theorem q431 : (Jvm.Cond.soleField "QuarryOrders$Block" "order") ∈ lw_all := lw_g (lw_at lw_m2 103 rfl) rfl
theorem q432 : (Jvm.Cond.lays "QuarryOrders$Block" "QuarryOrders$Block" "place" "I") ∈ lw_all := lw_g (lw_at lw_m2 104 rfl) rfl
theorem q433 : (Jvm.Cond.soleField "QuarryOrders$Block" "place") ∈ lw_all := lw_g (lw_at lw_m2 105 rfl) rfl
theorem q434 : (Jvm.Cond.lays "QuarryOrders$Block" "QuarryOrders$Block" "cracked" "Z") ∈ lw_all := lw_g (lw_at lw_m2 106 rfl) rfl
theorem q435 : (Jvm.Cond.soleField "QuarryOrders$Block" "cracked") ∈ lw_all := lw_g (lw_at lw_m2 107 rfl) rfl
theorem q436 : (Jvm.Cond.superclass "QuarryOrders$Block" "java/lang/Object") ∈ lw_all := lw_g (lw_at lw_m2 108 rfl) rfl
theorem q475 : (Jvm.Cond.selects "QuarryOrders$Block" ({ cls := "java/lang/Object", name := "getClass", desc := "()Ljava/lang/Class;" } : Jvm.MethodName) ({ cls := "java/lang/Object", name := "getClass", desc := "()Ljava/lang/Class;" } : Jvm.MethodName)) ∈ lw_all := lw_g (lw_at lw_m2 147 rfl) rfl
theorem q569 : (Jvm.Cond.instanceMethod ({ cls := "QuarryOrders$Block", name := "<init>", desc := "(ILQuarryOrders$Sizes;I)V" } : Jvm.MethodName)) ∈ lw_all := lw_g (lw_at lw_m3 1 rfl) rfl
theorem q570 : (Jvm.Cond.code ({ cls := "QuarryOrders$Block", name := "<init>", desc := "(ILQuarryOrders$Sizes;I)V" } : Jvm.MethodName) prog_2_method_1_code (4 : Nat) (Option.none : Option Jvm.ClassFile.FieldType)) ∈ lw_all := lw_g (lw_at lw_m3 2 rfl) rfl
theorem q572 : (Jvm.Cond.instanceMethod ({ cls := "QuarryOrders$Block", name := "weight", desc := "()I" } : Jvm.MethodName)) ∈ lw_all := lw_g (lw_at lw_m3 4 rfl) rfl
theorem q573 : (Jvm.Cond.selects "QuarryOrders$Block" ({ cls := "QuarryOrders$Block", name := "weight", desc := "()I" } : Jvm.MethodName) ({ cls := "QuarryOrders$Block", name := "weight", desc := "()I" } : Jvm.MethodName)) ∈ lw_all := lw_g (lw_at lw_m3 5 rfl) rfl
theorem q574 : (Jvm.Cond.code ({ cls := "QuarryOrders$Block", name := "weight", desc := "()I" } : Jvm.MethodName) prog_2_method_4_code (1 : Nat) (Option.some Jvm.ClassFile.FieldType.int)) ∈ lw_all := lw_g (lw_at lw_m3 6 rfl) rfl
theorem q575 : (Jvm.Cond.methodLink "QuarryOrders$Block" (44 : Nat) ({ cls := "QuarryOrders$Sizes", name := "weight", desc := "(I)I" } : Jvm.MethodName)) ∈ lw_all := lw_g (lw_at lw_m3 7 rfl) rfl
theorem q618 : (Jvm.Cond.instanceMethod ({ cls := "QuarryOrders$Block", name := "isAtHand", desc := "()Z" } : Jvm.MethodName)) ∈ lw_all := lw_g (lw_at lw_m3 50 rfl) rfl
theorem q619 : (Jvm.Cond.selects "QuarryOrders$Block" ({ cls := "QuarryOrders$Block", name := "isAtHand", desc := "()Z" } : Jvm.MethodName) ({ cls := "QuarryOrders$Block", name := "isAtHand", desc := "()Z" } : Jvm.MethodName)) ∈ lw_all := lw_g (lw_at lw_m3 51 rfl) rfl
theorem q620 : (Jvm.Cond.code ({ cls := "QuarryOrders$Block", name := "isAtHand", desc := "()Z" } : Jvm.MethodName) prog_2_method_5_code (1 : Nat) (Option.some Jvm.ClassFile.FieldType.boolean)) ∈ lw_all := lw_g (lw_at lw_m3 52 rfl) rfl
theorem q708 : (Jvm.Cond.instanceMethod ({ cls := "QuarryOrders$Block", name := "isHere", desc := "()Z" } : Jvm.MethodName)) ∈ lw_all := lw_g (lw_at lw_m3 140 rfl) rfl
theorem q709 : (Jvm.Cond.selects "QuarryOrders$Block" ({ cls := "QuarryOrders$Block", name := "isHere", desc := "()Z" } : Jvm.MethodName) ({ cls := "QuarryOrders$Block", name := "isHere", desc := "()Z" } : Jvm.MethodName)) ∈ lw_all := lw_g (lw_at lw_m3 141 rfl) rfl
theorem q710 : (Jvm.Cond.code ({ cls := "QuarryOrders$Block", name := "isHere", desc := "()Z" } : Jvm.MethodName) prog_2_method_6_code (1 : Nat) (Option.some Jvm.ClassFile.FieldType.boolean)) ∈ lw_all := lw_g (lw_at lw_m3 142 rfl) rfl
theorem q750 : (Jvm.Cond.instanceMethod ({ cls := "QuarryOrders$Block", name := "isOn", desc := "(I)Z" } : Jvm.MethodName)) ∈ lw_all := lw_g (lw_at lw_m3 182 rfl) rfl
theorem q751 : (Jvm.Cond.selects "QuarryOrders$Block" ({ cls := "QuarryOrders$Block", name := "isOn", desc := "(I)Z" } : Jvm.MethodName) ({ cls := "QuarryOrders$Block", name := "isOn", desc := "(I)Z" } : Jvm.MethodName)) ∈ lw_all := lw_g (lw_at lw_m3 183 rfl) rfl
theorem q752 : (Jvm.Cond.code ({ cls := "QuarryOrders$Block", name := "isOn", desc := "(I)Z" } : Jvm.MethodName) prog_2_method_7_code (2 : Nat) (Option.some Jvm.ClassFile.FieldType.boolean)) ∈ lw_all := lw_g (lw_at lw_m3 184 rfl) rfl
theorem q1610 : (Jvm.Cond.castable "QuarryOrders$Block" "java/lang/Object") ∈ lw_tbl := lw_at lw_m7 82 rfl
theorem in_X3 : ∀ w ∈ wsX30, w ∈ lw_all := lw_in wsX30 [418, 420, 422, 424, 426, 428, 430, 432, 434] (by decide +kernel) (by decide +kernel)

/-! QuarryOrders$Order -/
set_option maxRecDepth 100000
def RX4 : String := "QuarryOrders$Order"
def TX4 : u_T := fun k => match k with
  | 0 => ("QuarryOrders$Order", "sizes", "LQuarryOrders$Sizes;", true)
  | 1 => ("QuarryOrders$Order", "state", "I", false)
  | 2 => ("QuarryOrders$Order", "block", "I", false)
  | _ => ("QuarryOrders$Order", "invoice", "I", false)
def tyX4 : Nat → FieldType := fun k => match k with
  | 0 => .object "QuarryOrders$Sizes"
  | 1 => .int
  | 2 => .int
  | _ => .int
abbrev wsX40 : List Cond := u_ws RX4 TX4 4
theorem nmX4 : ∀ a, a < 4 → ∀ b, b < 4 → a ≠ b → (TX4 a).2.1 ≠ (TX4 b).2.1 := by decide +kernel
theorem tyX4_ok : ∀ k, k < 4 → parseFieldDescriptor (TX4 k).2.2.1 = some (tyX4 k) := by decide +kernel
abbrev cX4_init : ByteArray := prog_3_method_2_code
def yX4_init : MethodName := ⟨RX4, "<init>", "(LQuarryOrders$Order;)V"⟩
def dkwX4_init_1 : List UInt8 := [42, 43, 180, 0, 15, 181, 0, 15, 177]
abbrev dktX4_init_1 : List UInt8 := dkwX4_init_1 ++ []
def dkwX4_init_0 : List UInt8 := [42, 43, 180, 0, 18, 183, 0, 22, 42, 43, 180, 0, 25, 181, 0, 25, 42, 43, 180, 0, 9, 181, 0, 9]
abbrev dktX4_init_0 : List UInt8 := dkwX4_init_0 ++ dktX4_init_1
theorem dksX4_init_0 : cX4_init.data.toList.drop 0 = dktX4_init_0 := by decide +kernel
theorem dksX4_init_1 : cX4_init.data.toList.drop 24 = dktX4_init_1 := dk_seg dksX4_init_0 24 rfl rfl
theorem dX4_init_0 : decode cX4_init 0 = .ok (.aload_n 0, 1) := dk_42 (dk_at dksX4_init_0 0 rfl rfl)
theorem dX4_init_1 : decode cX4_init 1 = .ok (.aload_n 1, 1) := dk_43 (dk_at dksX4_init_0 1 rfl rfl)
theorem dX4_init_2 : decode cX4_init 2 = .ok (.getfield 18, 3) := dk_180 0 18 (dk_at dksX4_init_0 2 rfl rfl)
theorem dX4_init_5 : decode cX4_init 5 = .ok (.invokespecial 22, 3) := dk_183 0 22 (dk_at dksX4_init_0 5 rfl rfl)
theorem dX4_init_8 : decode cX4_init 8 = .ok (.aload_n 0, 1) := dk_42 (dk_at dksX4_init_0 8 rfl rfl)
theorem dX4_init_9 : decode cX4_init 9 = .ok (.aload_n 1, 1) := dk_43 (dk_at dksX4_init_0 9 rfl rfl)
theorem dX4_init_10 : decode cX4_init 10 = .ok (.getfield 25, 3) := dk_180 0 25 (dk_at dksX4_init_0 10 rfl rfl)
theorem dX4_init_13 : decode cX4_init 13 = .ok (.putfield 25, 3) := dk_181 0 25 (dk_at dksX4_init_0 13 rfl rfl)
theorem dX4_init_16 : decode cX4_init 16 = .ok (.aload_n 0, 1) := dk_42 (dk_at dksX4_init_0 16 rfl rfl)
theorem dX4_init_17 : decode cX4_init 17 = .ok (.aload_n 1, 1) := dk_43 (dk_at dksX4_init_0 17 rfl rfl)
theorem dX4_init_18 : decode cX4_init 18 = .ok (.getfield 9, 3) := dk_180 0 9 (dk_at dksX4_init_0 18 rfl rfl)
theorem dX4_init_21 : decode cX4_init 21 = .ok (.putfield 9, 3) := dk_181 0 9 (dk_at dksX4_init_0 21 rfl rfl)
theorem dX4_init_24 : decode cX4_init 24 = .ok (.aload_n 0, 1) := dk_42 (dk_at dksX4_init_1 0 rfl rfl)
theorem dX4_init_25 : decode cX4_init 25 = .ok (.aload_n 1, 1) := dk_43 (dk_at dksX4_init_1 1 rfl rfl)
theorem dX4_init_26 : decode cX4_init 26 = .ok (.getfield 15, 3) := dk_180 0 15 (dk_at dksX4_init_1 2 rfl rfl)
theorem dX4_init_29 : decode cX4_init 29 = .ok (.putfield 15, 3) := dk_181 0 15 (dk_at dksX4_init_1 5 rfl rfl)
theorem dX4_init_32 : decode cX4_init 32 = .ok (.return_, 1) := dk_177 (dk_at dksX4_init_1 8 rfl rfl)
abbrev cX4_init_2 : ByteArray := prog_3_method_1_code
def yX4_init_2 : MethodName := ⟨RX4, "<init>", "(LQuarryOrders$Sizes;)V"⟩
def dkwX4_init_2_0 : List UInt8 := [42, 183, 0, 3, 42, 16, 250, 181, 0, 9, 42, 16, 250, 181, 0, 15, 42, 43, 181, 0, 18, 177]
abbrev dktX4_init_2_0 : List UInt8 := dkwX4_init_2_0 ++ []
theorem dksX4_init_2_0 : cX4_init_2.data.toList.drop 0 = dktX4_init_2_0 := by decide +kernel
theorem dX4_init_2_0 : decode cX4_init_2 0 = .ok (.aload_n 0, 1) := dk_42 (dk_at dksX4_init_2_0 0 rfl rfl)
theorem dX4_init_2_1 : decode cX4_init_2 1 = .ok (.invokespecial 3, 3) := dk_183 0 3 (dk_at dksX4_init_2_0 1 rfl rfl)
theorem dX4_init_2_4 : decode cX4_init_2 4 = .ok (.aload_n 0, 1) := dk_42 (dk_at dksX4_init_2_0 4 rfl rfl)
theorem dX4_init_2_5 : decode cX4_init_2 5 = .ok (.bipush (-6), 2) := dk_16 250 (dk_at dksX4_init_2_0 5 rfl rfl)
theorem dX4_init_2_7 : decode cX4_init_2 7 = .ok (.putfield 9, 3) := dk_181 0 9 (dk_at dksX4_init_2_0 7 rfl rfl)
theorem dX4_init_2_10 : decode cX4_init_2 10 = .ok (.aload_n 0, 1) := dk_42 (dk_at dksX4_init_2_0 10 rfl rfl)
theorem dX4_init_2_11 : decode cX4_init_2 11 = .ok (.bipush (-6), 2) := dk_16 250 (dk_at dksX4_init_2_0 11 rfl rfl)
theorem dX4_init_2_13 : decode cX4_init_2 13 = .ok (.putfield 15, 3) := dk_181 0 15 (dk_at dksX4_init_2_0 13 rfl rfl)
theorem dX4_init_2_16 : decode cX4_init_2 16 = .ok (.aload_n 0, 1) := dk_42 (dk_at dksX4_init_2_0 16 rfl rfl)
theorem dX4_init_2_17 : decode cX4_init_2 17 = .ok (.aload_n 1, 1) := dk_43 (dk_at dksX4_init_2_0 17 rfl rfl)
theorem dX4_init_2_18 : decode cX4_init_2 18 = .ok (.putfield 18, 3) := dk_181 0 18 (dk_at dksX4_init_2_0 18 rfl rfl)
theorem dX4_init_2_21 : decode cX4_init_2 21 = .ok (.return_, 1) := dk_177 (dk_at dksX4_init_2_0 21 rfl rfl)
theorem q107 : (Jvm.Cond.initialized "QuarryOrders$Order") ∈ lw_all := lw_g (lw_at lw_m1 19 rfl) rfl
theorem q476 : (Jvm.Cond.selects "QuarryOrders$Order" ({ cls := "java/lang/Object", name := "getClass", desc := "()Ljava/lang/Class;" } : Jvm.MethodName) ({ cls := "java/lang/Object", name := "getClass", desc := "()Ljava/lang/Class;" } : Jvm.MethodName)) ∈ lw_all := lw_g (lw_at lw_m2 148 rfl) rfl
theorem q498 : (Jvm.Cond.instantiable "QuarryOrders$Order" (4 : Nat)) ∈ lw_all := lw_g (lw_at lw_m2 170 rfl) rfl
theorem q500 : (Jvm.Cond.instanceMethod ({ cls := "QuarryOrders$Order", name := "<init>", desc := "(LQuarryOrders$Order;)V" } : Jvm.MethodName)) ∈ lw_all := lw_g (lw_at lw_m2 172 rfl) rfl
theorem q501 : (Jvm.Cond.code ({ cls := "QuarryOrders$Order", name := "<init>", desc := "(LQuarryOrders$Order;)V" } : Jvm.MethodName) prog_3_method_2_code (2 : Nat) (Option.none : Option Jvm.ClassFile.FieldType)) ∈ lw_all := lw_g (lw_at lw_m2 173 rfl) rfl
theorem q502 : (Jvm.Cond.methodLink "QuarryOrders$Order" (22 : Nat) ({ cls := "QuarryOrders$Order", name := "<init>", desc := "(LQuarryOrders$Sizes;)V" } : Jvm.MethodName)) ∈ lw_all := lw_g (lw_at lw_m2 174 rfl) rfl
theorem q503 : (Jvm.Cond.instanceMethod ({ cls := "QuarryOrders$Order", name := "<init>", desc := "(LQuarryOrders$Sizes;)V" } : Jvm.MethodName)) ∈ lw_all := lw_g (lw_at lw_m2 175 rfl) rfl
theorem q504 : (Jvm.Cond.code ({ cls := "QuarryOrders$Order", name := "<init>", desc := "(LQuarryOrders$Sizes;)V" } : Jvm.MethodName) prog_3_method_1_code (2 : Nat) (Option.none : Option Jvm.ClassFile.FieldType)) ∈ lw_all := lw_g (lw_at lw_m2 176 rfl) rfl
theorem q505 : (Jvm.Cond.methodLink "QuarryOrders$Order" (3 : Nat) ({ cls := "java/lang/Object", name := "<init>", desc := "()V" } : Jvm.MethodName)) ∈ lw_all := lw_g (lw_at lw_m2 177 rfl) rfl
theorem q506 : (Jvm.Cond.fieldLink "QuarryOrders$Order" (18 : Nat) "QuarryOrders$Order" "sizes" "LQuarryOrders$Sizes;") ∈ lw_all := lw_g (lw_at lw_m2 178 rfl) rfl
theorem q509 : (Jvm.Cond.fieldLink "QuarryOrders$Order" (25 : Nat) "QuarryOrders$Order" "state" "I") ∈ lw_all := lw_g (lw_at lw_m2 181 rfl) rfl
theorem q512 : (Jvm.Cond.fieldLink "QuarryOrders$Order" (9 : Nat) "QuarryOrders$Order" "block" "I") ∈ lw_all := lw_g (lw_at lw_m2 184 rfl) rfl
theorem q514 : (Jvm.Cond.fieldLink "QuarryOrders$Order" (15 : Nat) "QuarryOrders$Order" "invoice" "I") ∈ lw_all := lw_g (lw_at lw_m2 186 rfl) rfl
theorem q517 : (Jvm.Cond.laysFinal "QuarryOrders$Order" "QuarryOrders$Order" "sizes" "LQuarryOrders$Sizes;") ∈ lw_all := lw_g (lw_at lw_m2 189 rfl) rfl
theorem q518 : (Jvm.Cond.soleField "QuarryOrders$Order" "sizes") ∈ lw_all := lw_g (lw_at lw_m2 190 rfl) rfl
theorem q519 : (Jvm.Cond.lays "QuarryOrders$Order" "QuarryOrders$Order" "state" "I") ∈ lw_all := lw_g (lw_at lw_m2 191 rfl) rfl
theorem q520 : (Jvm.Cond.soleField "QuarryOrders$Order" "state") ∈ lw_all := lw_g (lw_at lw_m2 192 rfl) rfl
theorem q521 : (Jvm.Cond.lays "QuarryOrders$Order" "QuarryOrders$Order" "block" "I") ∈ lw_all := lw_g (lw_at lw_m2 193 rfl) rfl
theorem q522 : (Jvm.Cond.soleField "QuarryOrders$Order" "block") ∈ lw_all := lw_g (lw_at lw_m2 194 rfl) rfl
theorem q523 : (Jvm.Cond.lays "QuarryOrders$Order" "QuarryOrders$Order" "invoice" "I") ∈ lw_all := lw_g (lw_at lw_m2 195 rfl) rfl
theorem q524 : (Jvm.Cond.soleField "QuarryOrders$Order" "invoice") ∈ lw_all := lw_g (lw_at lw_m2 196 rfl) rfl
theorem q525 : (Jvm.Cond.superclass "QuarryOrders$Order" "java/lang/Object") ∈ lw_all := lw_g (lw_at lw_m2 197 rfl) rfl
theorem q1611 : (Jvm.Cond.castable "QuarryOrders$Order" "java/lang/Object") ∈ lw_tbl := lw_at lw_m7 83 rfl
theorem in_X4 : ∀ w ∈ wsX40, w ∈ lw_all := lw_in wsX40 [517, 519, 521, 523] (by decide +kernel) (by decide +kernel)

/-! QuarryOrders$Sizes -/
set_option maxRecDepth 100000
def RX5 : String := "QuarryOrders$Sizes"
def TX5 : u_T := fun k => match k with
  | 0 => ("QuarryOrders$Sizes", "first", "I", true)
  | 1 => ("QuarryOrders$Sizes", "second", "I", true)
  | _ => ("QuarryOrders$Sizes", "third", "I", true)
def tyX5 : Nat → FieldType := fun k => match k with
  | 0 => .int
  | 1 => .int
  | _ => .int
abbrev wsX50 : List Cond := u_ws RX5 TX5 3
theorem nmX5 : ∀ a, a < 3 → ∀ b, b < 3 → a ≠ b → (TX5 a).2.1 ≠ (TX5 b).2.1 := by decide +kernel
theorem tyX5_ok : ∀ k, k < 3 → parseFieldDescriptor (TX5 k).2.2.1 = some (tyX5 k) := by decide +kernel
abbrev cX5_init : ByteArray := prog_6_method_1_code
def yX5_init : MethodName := ⟨RX5, "<init>", "(III)V"⟩
def dkwX5_init_0 : List UInt8 := [42, 183, 0, 3, 42, 27, 181, 0, 9, 42, 28, 181, 0, 15, 42, 29, 181, 0, 18, 177]
abbrev dktX5_init_0 : List UInt8 := dkwX5_init_0 ++ []
theorem dksX5_init_0 : cX5_init.data.toList.drop 0 = dktX5_init_0 := by decide +kernel
theorem dX5_init_0 : decode cX5_init 0 = .ok (.aload_n 0, 1) := dk_42 (dk_at dksX5_init_0 0 rfl rfl)
theorem dX5_init_1 : decode cX5_init 1 = .ok (.invokespecial 3, 3) := dk_183 0 3 (dk_at dksX5_init_0 1 rfl rfl)
theorem dX5_init_4 : decode cX5_init 4 = .ok (.aload_n 0, 1) := dk_42 (dk_at dksX5_init_0 4 rfl rfl)
theorem dX5_init_5 : decode cX5_init 5 = .ok (.iload_n 1, 1) := dk_27 (dk_at dksX5_init_0 5 rfl rfl)
theorem dX5_init_6 : decode cX5_init 6 = .ok (.putfield 9, 3) := dk_181 0 9 (dk_at dksX5_init_0 6 rfl rfl)
theorem dX5_init_9 : decode cX5_init 9 = .ok (.aload_n 0, 1) := dk_42 (dk_at dksX5_init_0 9 rfl rfl)
theorem dX5_init_10 : decode cX5_init 10 = .ok (.iload_n 2, 1) := dk_28 (dk_at dksX5_init_0 10 rfl rfl)
theorem dX5_init_11 : decode cX5_init 11 = .ok (.putfield 15, 3) := dk_181 0 15 (dk_at dksX5_init_0 11 rfl rfl)
theorem dX5_init_14 : decode cX5_init 14 = .ok (.aload_n 0, 1) := dk_42 (dk_at dksX5_init_0 14 rfl rfl)
theorem dX5_init_15 : decode cX5_init 15 = .ok (.iload_n 3, 1) := dk_29 (dk_at dksX5_init_0 15 rfl rfl)
theorem dX5_init_16 : decode cX5_init 16 = .ok (.putfield 18, 3) := dk_181 0 18 (dk_at dksX5_init_0 16 rfl rfl)
theorem dX5_init_19 : decode cX5_init 19 = .ok (.return_, 1) := dk_177 (dk_at dksX5_init_0 19 rfl rfl)
abbrev cX5_weight : ByteArray := prog_6_method_5_code
def yX5_weight : MethodName := ⟨RX5, "weight", "(I)I"⟩
def dkwX5_weight_0 : List UInt8 := [42, 180, 0, 9, 42, 180, 0, 15, 104, 42, 180, 0, 18, 104, 27, 104, 17, 39, 16, 108, 172]
abbrev dktX5_weight_0 : List UInt8 := dkwX5_weight_0 ++ []
theorem dksX5_weight_0 : cX5_weight.data.toList.drop 0 = dktX5_weight_0 := by decide +kernel
theorem dX5_weight_0 : decode cX5_weight 0 = .ok (.aload_n 0, 1) := dk_42 (dk_at dksX5_weight_0 0 rfl rfl)
theorem dX5_weight_1 : decode cX5_weight 1 = .ok (.getfield 9, 3) := dk_180 0 9 (dk_at dksX5_weight_0 1 rfl rfl)
theorem dX5_weight_4 : decode cX5_weight 4 = .ok (.aload_n 0, 1) := dk_42 (dk_at dksX5_weight_0 4 rfl rfl)
theorem dX5_weight_5 : decode cX5_weight 5 = .ok (.getfield 15, 3) := dk_180 0 15 (dk_at dksX5_weight_0 5 rfl rfl)
theorem dX5_weight_8 : decode cX5_weight 8 = .ok (.imul, 1) := dk_104 (dk_at dksX5_weight_0 8 rfl rfl)
theorem dX5_weight_9 : decode cX5_weight 9 = .ok (.aload_n 0, 1) := dk_42 (dk_at dksX5_weight_0 9 rfl rfl)
theorem dX5_weight_10 : decode cX5_weight 10 = .ok (.getfield 18, 3) := dk_180 0 18 (dk_at dksX5_weight_0 10 rfl rfl)
theorem dX5_weight_13 : decode cX5_weight 13 = .ok (.imul, 1) := dk_104 (dk_at dksX5_weight_0 13 rfl rfl)
theorem dX5_weight_14 : decode cX5_weight 14 = .ok (.iload_n 1, 1) := dk_27 (dk_at dksX5_weight_0 14 rfl rfl)
theorem dX5_weight_15 : decode cX5_weight 15 = .ok (.imul, 1) := dk_104 (dk_at dksX5_weight_0 15 rfl rfl)
theorem dX5_weight_16 : decode cX5_weight 16 = .ok (.sipush 10000, 3) := dk_17 39 16 (dk_at dksX5_weight_0 16 rfl rfl)
theorem dX5_weight_19 : decode cX5_weight 19 = .ok (.idiv, 1) := dk_108 (dk_at dksX5_weight_0 19 rfl rfl)
theorem dX5_weight_20 : decode cX5_weight 20 = .ok (.ireturn, 1) := dk_172 (dk_at dksX5_weight_0 20 rfl rfl)
abbrev cX5_of : ByteArray := prog_6_method_2_code
def yX5_of : MethodName := ⟨RX5, "of", "(I)I"⟩
def dkwX5_of_1 : List UInt8 := [180, 0, 18, 172]
abbrev dktX5_of_1 : List UInt8 := dkwX5_of_1 ++ []
def dkwX5_of_0 : List UInt8 := [27, 154, 0, 10, 42, 180, 0, 9, 167, 0, 19, 27, 4, 160, 0, 10, 42, 180, 0, 15, 167, 0, 7, 42]
abbrev dktX5_of_0 : List UInt8 := dkwX5_of_0 ++ dktX5_of_1
theorem dksX5_of_0 : cX5_of.data.toList.drop 0 = dktX5_of_0 := by decide +kernel
theorem dksX5_of_1 : cX5_of.data.toList.drop 24 = dktX5_of_1 := dk_seg dksX5_of_0 24 rfl rfl
theorem dX5_of_0 : decode cX5_of 0 = .ok (.iload_n 1, 1) := dk_27 (dk_at dksX5_of_0 0 rfl rfl)
theorem dX5_of_1 : decode cX5_of 1 = .ok (.ifCond .ne 10, 3) := dk_154 0 10 (dk_at dksX5_of_0 1 rfl rfl)
theorem dX5_of_4 : decode cX5_of 4 = .ok (.aload_n 0, 1) := dk_42 (dk_at dksX5_of_0 4 rfl rfl)
theorem dX5_of_5 : decode cX5_of 5 = .ok (.getfield 9, 3) := dk_180 0 9 (dk_at dksX5_of_0 5 rfl rfl)
theorem dX5_of_8 : decode cX5_of 8 = .ok (.goto 19, 3) := dk_167 0 19 (dk_at dksX5_of_0 8 rfl rfl)
theorem dX5_of_11 : decode cX5_of 11 = .ok (.iload_n 1, 1) := dk_27 (dk_at dksX5_of_0 11 rfl rfl)
theorem dX5_of_12 : decode cX5_of 12 = .ok (.iconst 1, 1) := dk_4 (dk_at dksX5_of_0 12 rfl rfl)
theorem dX5_of_13 : decode cX5_of 13 = .ok (.if_icmp .ne 10, 3) := dk_160 0 10 (dk_at dksX5_of_0 13 rfl rfl)
theorem dX5_of_16 : decode cX5_of 16 = .ok (.aload_n 0, 1) := dk_42 (dk_at dksX5_of_0 16 rfl rfl)
theorem dX5_of_17 : decode cX5_of 17 = .ok (.getfield 15, 3) := dk_180 0 15 (dk_at dksX5_of_0 17 rfl rfl)
theorem dX5_of_20 : decode cX5_of 20 = .ok (.goto 7, 3) := dk_167 0 7 (dk_at dksX5_of_0 20 rfl rfl)
theorem dX5_of_23 : decode cX5_of 23 = .ok (.aload_n 0, 1) := dk_42 (dk_at dksX5_of_0 23 rfl rfl)
theorem dX5_of_24 : decode cX5_of 24 = .ok (.getfield 18, 3) := dk_180 0 18 (dk_at dksX5_of_1 0 rfl rfl)
theorem dX5_of_27 : decode cX5_of 27 = .ok (.ireturn, 1) := dk_172 (dk_at dksX5_of_1 3 rfl rfl)
abbrev cX5_with : ByteArray := prog_6_method_3_code
def yX5_with : MethodName := ⟨RX5, "with", "(II)LQuarryOrders$Sizes;"⟩
def dkwX5_with_1 : List UInt8 := [167, 0, 7, 42, 180, 0, 15, 27, 5, 160, 0, 7, 28, 167, 0, 7, 42, 180, 0, 18, 183, 0, 21, 176]
abbrev dktX5_with_1 : List UInt8 := dkwX5_with_1 ++ []
def dkwX5_with_0 : List UInt8 := [187, 0, 10, 89, 27, 154, 0, 7, 28, 167, 0, 7, 42, 180, 0, 9, 27, 4, 160, 0, 7, 28]
abbrev dktX5_with_0 : List UInt8 := dkwX5_with_0 ++ dktX5_with_1
theorem dksX5_with_0 : cX5_with.data.toList.drop 0 = dktX5_with_0 := by decide +kernel
theorem dksX5_with_1 : cX5_with.data.toList.drop 22 = dktX5_with_1 := dk_seg dksX5_with_0 22 rfl rfl
theorem dX5_with_0 : decode cX5_with 0 = .ok (.new 10, 3) := dk_187 0 10 (dk_at dksX5_with_0 0 rfl rfl)
theorem dX5_with_3 : decode cX5_with 3 = .ok (.dup, 1) := dk_89 (dk_at dksX5_with_0 3 rfl rfl)
theorem dX5_with_4 : decode cX5_with 4 = .ok (.iload_n 1, 1) := dk_27 (dk_at dksX5_with_0 4 rfl rfl)
theorem dX5_with_5 : decode cX5_with 5 = .ok (.ifCond .ne 7, 3) := dk_154 0 7 (dk_at dksX5_with_0 5 rfl rfl)
theorem dX5_with_8 : decode cX5_with 8 = .ok (.iload_n 2, 1) := dk_28 (dk_at dksX5_with_0 8 rfl rfl)
theorem dX5_with_9 : decode cX5_with 9 = .ok (.goto 7, 3) := dk_167 0 7 (dk_at dksX5_with_0 9 rfl rfl)
theorem dX5_with_12 : decode cX5_with 12 = .ok (.aload_n 0, 1) := dk_42 (dk_at dksX5_with_0 12 rfl rfl)
theorem dX5_with_13 : decode cX5_with 13 = .ok (.getfield 9, 3) := dk_180 0 9 (dk_at dksX5_with_0 13 rfl rfl)
theorem dX5_with_16 : decode cX5_with 16 = .ok (.iload_n 1, 1) := dk_27 (dk_at dksX5_with_0 16 rfl rfl)
theorem dX5_with_17 : decode cX5_with 17 = .ok (.iconst 1, 1) := dk_4 (dk_at dksX5_with_0 17 rfl rfl)
theorem dX5_with_18 : decode cX5_with 18 = .ok (.if_icmp .ne 7, 3) := dk_160 0 7 (dk_at dksX5_with_0 18 rfl rfl)
theorem dX5_with_21 : decode cX5_with 21 = .ok (.iload_n 2, 1) := dk_28 (dk_at dksX5_with_0 21 rfl rfl)
theorem dX5_with_22 : decode cX5_with 22 = .ok (.goto 7, 3) := dk_167 0 7 (dk_at dksX5_with_1 0 rfl rfl)
theorem dX5_with_25 : decode cX5_with 25 = .ok (.aload_n 0, 1) := dk_42 (dk_at dksX5_with_1 3 rfl rfl)
theorem dX5_with_26 : decode cX5_with 26 = .ok (.getfield 15, 3) := dk_180 0 15 (dk_at dksX5_with_1 4 rfl rfl)
theorem dX5_with_29 : decode cX5_with 29 = .ok (.iload_n 1, 1) := dk_27 (dk_at dksX5_with_1 7 rfl rfl)
theorem dX5_with_30 : decode cX5_with 30 = .ok (.iconst 2, 1) := dk_5 (dk_at dksX5_with_1 8 rfl rfl)
theorem dX5_with_31 : decode cX5_with 31 = .ok (.if_icmp .ne 7, 3) := dk_160 0 7 (dk_at dksX5_with_1 9 rfl rfl)
theorem dX5_with_34 : decode cX5_with 34 = .ok (.iload_n 2, 1) := dk_28 (dk_at dksX5_with_1 12 rfl rfl)
theorem dX5_with_35 : decode cX5_with 35 = .ok (.goto 7, 3) := dk_167 0 7 (dk_at dksX5_with_1 13 rfl rfl)
theorem dX5_with_38 : decode cX5_with 38 = .ok (.aload_n 0, 1) := dk_42 (dk_at dksX5_with_1 16 rfl rfl)
theorem dX5_with_39 : decode cX5_with 39 = .ok (.getfield 18, 3) := dk_180 0 18 (dk_at dksX5_with_1 17 rfl rfl)
theorem dX5_with_42 : decode cX5_with 42 = .ok (.invokespecial 21, 3) := dk_183 0 21 (dk_at dksX5_with_1 20 rfl rfl)
theorem dX5_with_45 : decode cX5_with 45 = .ok (.areturn, 1) := dk_176 (dk_at dksX5_with_1 23 rfl rfl)
abbrev cX5_sorted : ByteArray := prog_6_method_4_code
def yX5_sorted : MethodName := ⟨RX5, "sorted", "()LQuarryOrders$Sizes;"⟩
def dkwX5_sorted_2 : List UInt8 := [180, 0, 15, 96, 42, 180, 0, 18, 96, 27, 100, 28, 100, 28, 183, 0, 21, 176]
abbrev dktX5_sorted_2 : List UInt8 := dkwX5_sorted_2 ++ []
def dkwX5_sorted_1 : List UInt8 := [180, 0, 15, 42, 180, 0, 18, 184, 0, 30, 184, 0, 30, 61, 187, 0, 10, 89, 27, 42, 180, 0, 9, 42]
abbrev dktX5_sorted_1 : List UInt8 := dkwX5_sorted_1 ++ dktX5_sorted_2
def dkwX5_sorted_0 : List UInt8 := [42, 180, 0, 9, 42, 180, 0, 15, 42, 180, 0, 18, 184, 0, 24, 184, 0, 24, 60, 42, 180, 0, 9, 42]
abbrev dktX5_sorted_0 : List UInt8 := dkwX5_sorted_0 ++ dktX5_sorted_1
theorem dksX5_sorted_0 : cX5_sorted.data.toList.drop 0 = dktX5_sorted_0 := by decide +kernel
theorem dksX5_sorted_1 : cX5_sorted.data.toList.drop 24 = dktX5_sorted_1 := dk_seg dksX5_sorted_0 24 rfl rfl
theorem dksX5_sorted_2 : cX5_sorted.data.toList.drop 48 = dktX5_sorted_2 := dk_seg dksX5_sorted_1 24 rfl rfl
theorem dX5_sorted_0 : decode cX5_sorted 0 = .ok (.aload_n 0, 1) := dk_42 (dk_at dksX5_sorted_0 0 rfl rfl)
theorem dX5_sorted_1 : decode cX5_sorted 1 = .ok (.getfield 9, 3) := dk_180 0 9 (dk_at dksX5_sorted_0 1 rfl rfl)
theorem dX5_sorted_4 : decode cX5_sorted 4 = .ok (.aload_n 0, 1) := dk_42 (dk_at dksX5_sorted_0 4 rfl rfl)
theorem dX5_sorted_5 : decode cX5_sorted 5 = .ok (.getfield 15, 3) := dk_180 0 15 (dk_at dksX5_sorted_0 5 rfl rfl)
theorem dX5_sorted_8 : decode cX5_sorted 8 = .ok (.aload_n 0, 1) := dk_42 (dk_at dksX5_sorted_0 8 rfl rfl)
theorem dX5_sorted_9 : decode cX5_sorted 9 = .ok (.getfield 18, 3) := dk_180 0 18 (dk_at dksX5_sorted_0 9 rfl rfl)
theorem dX5_sorted_12 : decode cX5_sorted 12 = .ok (.invokestatic 24, 3) := dk_184 0 24 (dk_at dksX5_sorted_0 12 rfl rfl)
theorem dX5_sorted_15 : decode cX5_sorted 15 = .ok (.invokestatic 24, 3) := dk_184 0 24 (dk_at dksX5_sorted_0 15 rfl rfl)
theorem dX5_sorted_18 : decode cX5_sorted 18 = .ok (.istore_n 1, 1) := dk_60 (dk_at dksX5_sorted_0 18 rfl rfl)
theorem dX5_sorted_19 : decode cX5_sorted 19 = .ok (.aload_n 0, 1) := dk_42 (dk_at dksX5_sorted_0 19 rfl rfl)
theorem dX5_sorted_20 : decode cX5_sorted 20 = .ok (.getfield 9, 3) := dk_180 0 9 (dk_at dksX5_sorted_0 20 rfl rfl)
theorem dX5_sorted_23 : decode cX5_sorted 23 = .ok (.aload_n 0, 1) := dk_42 (dk_at dksX5_sorted_0 23 rfl rfl)
theorem dX5_sorted_24 : decode cX5_sorted 24 = .ok (.getfield 15, 3) := dk_180 0 15 (dk_at dksX5_sorted_1 0 rfl rfl)
theorem dX5_sorted_27 : decode cX5_sorted 27 = .ok (.aload_n 0, 1) := dk_42 (dk_at dksX5_sorted_1 3 rfl rfl)
theorem dX5_sorted_28 : decode cX5_sorted 28 = .ok (.getfield 18, 3) := dk_180 0 18 (dk_at dksX5_sorted_1 4 rfl rfl)
theorem dX5_sorted_31 : decode cX5_sorted 31 = .ok (.invokestatic 30, 3) := dk_184 0 30 (dk_at dksX5_sorted_1 7 rfl rfl)
theorem dX5_sorted_34 : decode cX5_sorted 34 = .ok (.invokestatic 30, 3) := dk_184 0 30 (dk_at dksX5_sorted_1 10 rfl rfl)
theorem dX5_sorted_37 : decode cX5_sorted 37 = .ok (.istore_n 2, 1) := dk_61 (dk_at dksX5_sorted_1 13 rfl rfl)
theorem dX5_sorted_38 : decode cX5_sorted 38 = .ok (.new 10, 3) := dk_187 0 10 (dk_at dksX5_sorted_1 14 rfl rfl)
theorem dX5_sorted_41 : decode cX5_sorted 41 = .ok (.dup, 1) := dk_89 (dk_at dksX5_sorted_1 17 rfl rfl)
theorem dX5_sorted_42 : decode cX5_sorted 42 = .ok (.iload_n 1, 1) := dk_27 (dk_at dksX5_sorted_1 18 rfl rfl)
theorem dX5_sorted_43 : decode cX5_sorted 43 = .ok (.aload_n 0, 1) := dk_42 (dk_at dksX5_sorted_1 19 rfl rfl)
theorem dX5_sorted_44 : decode cX5_sorted 44 = .ok (.getfield 9, 3) := dk_180 0 9 (dk_at dksX5_sorted_1 20 rfl rfl)
theorem dX5_sorted_47 : decode cX5_sorted 47 = .ok (.aload_n 0, 1) := dk_42 (dk_at dksX5_sorted_1 23 rfl rfl)
theorem dX5_sorted_48 : decode cX5_sorted 48 = .ok (.getfield 15, 3) := dk_180 0 15 (dk_at dksX5_sorted_2 0 rfl rfl)
theorem dX5_sorted_51 : decode cX5_sorted 51 = .ok (.iadd, 1) := dk_96 (dk_at dksX5_sorted_2 3 rfl rfl)
theorem dX5_sorted_52 : decode cX5_sorted 52 = .ok (.aload_n 0, 1) := dk_42 (dk_at dksX5_sorted_2 4 rfl rfl)
theorem dX5_sorted_53 : decode cX5_sorted 53 = .ok (.getfield 18, 3) := dk_180 0 18 (dk_at dksX5_sorted_2 5 rfl rfl)
theorem dX5_sorted_56 : decode cX5_sorted 56 = .ok (.iadd, 1) := dk_96 (dk_at dksX5_sorted_2 8 rfl rfl)
theorem dX5_sorted_57 : decode cX5_sorted 57 = .ok (.iload_n 1, 1) := dk_27 (dk_at dksX5_sorted_2 9 rfl rfl)
theorem dX5_sorted_58 : decode cX5_sorted 58 = .ok (.isub, 1) := dk_100 (dk_at dksX5_sorted_2 10 rfl rfl)
theorem dX5_sorted_59 : decode cX5_sorted 59 = .ok (.iload_n 2, 1) := dk_28 (dk_at dksX5_sorted_2 11 rfl rfl)
theorem dX5_sorted_60 : decode cX5_sorted 60 = .ok (.isub, 1) := dk_100 (dk_at dksX5_sorted_2 12 rfl rfl)
theorem dX5_sorted_61 : decode cX5_sorted 61 = .ok (.iload_n 2, 1) := dk_28 (dk_at dksX5_sorted_2 13 rfl rfl)
theorem dX5_sorted_62 : decode cX5_sorted 62 = .ok (.invokespecial 21, 3) := dk_183 0 21 (dk_at dksX5_sorted_2 14 rfl rfl)
theorem dX5_sorted_65 : decode cX5_sorted 65 = .ok (.areturn, 1) := dk_176 (dk_at dksX5_sorted_2 17 rfl rfl)
abbrev cX5_over : ByteArray := prog_6_method_6_code
def yX5_over : MethodName := ⟨RX5, "over", "(LQuarryOrders$Sizes;I)I"⟩
def dkwX5_over_2 : List UInt8 := [21, 6, 96, 54, 4, 132, 5, 1, 167, 255, 212, 21, 4, 172]
abbrev dktX5_over_2 : List UInt8 := dkwX5_over_2 ++ []
def dkwX5_over_1 : List UInt8 := [21, 5, 182, 0, 37, 100, 54, 6, 21, 6, 3, 28, 184, 0, 41, 154, 0, 6, 16, 250, 172, 21, 4]
abbrev dktX5_over_1 : List UInt8 := dkwX5_over_1 ++ dktX5_over_2
def dkwX5_over_0 : List UInt8 := [42, 182, 0, 33, 78, 3, 54, 4, 3, 54, 5, 21, 5, 6, 162, 0, 44, 45, 21, 5, 182, 0, 37, 43]
abbrev dktX5_over_0 : List UInt8 := dkwX5_over_0 ++ dktX5_over_1
theorem dksX5_over_0 : cX5_over.data.toList.drop 0 = dktX5_over_0 := by decide +kernel
theorem dksX5_over_1 : cX5_over.data.toList.drop 24 = dktX5_over_1 := dk_seg dksX5_over_0 24 rfl rfl
theorem dksX5_over_2 : cX5_over.data.toList.drop 47 = dktX5_over_2 := dk_seg dksX5_over_1 23 rfl rfl
theorem dX5_over_0 : decode cX5_over 0 = .ok (.aload_n 0, 1) := dk_42 (dk_at dksX5_over_0 0 rfl rfl)
theorem dX5_over_1 : decode cX5_over 1 = .ok (.invokevirtual 33, 3) := dk_182 0 33 (dk_at dksX5_over_0 1 rfl rfl)
theorem dX5_over_4 : decode cX5_over 4 = .ok (.astore_n 3, 1) := dk_78 (dk_at dksX5_over_0 4 rfl rfl)
theorem dX5_over_5 : decode cX5_over 5 = .ok (.iconst 0, 1) := dk_3 (dk_at dksX5_over_0 5 rfl rfl)
theorem dX5_over_6 : decode cX5_over 6 = .ok (.istore 4, 2) := dk_54 4 (dk_at dksX5_over_0 6 rfl rfl)
theorem dX5_over_8 : decode cX5_over 8 = .ok (.iconst 0, 1) := dk_3 (dk_at dksX5_over_0 8 rfl rfl)
theorem dX5_over_9 : decode cX5_over 9 = .ok (.istore 5, 2) := dk_54 5 (dk_at dksX5_over_0 9 rfl rfl)
theorem dX5_over_11 : decode cX5_over 11 = .ok (.iload 5, 2) := dk_21 5 (dk_at dksX5_over_0 11 rfl rfl)
theorem dX5_over_13 : decode cX5_over 13 = .ok (.iconst 3, 1) := dk_6 (dk_at dksX5_over_0 13 rfl rfl)
theorem dX5_over_14 : decode cX5_over 14 = .ok (.if_icmp .ge 44, 3) := dk_162 0 44 (dk_at dksX5_over_0 14 rfl rfl)
theorem dX5_over_17 : decode cX5_over 17 = .ok (.aload_n 3, 1) := dk_45 (dk_at dksX5_over_0 17 rfl rfl)
theorem dX5_over_18 : decode cX5_over 18 = .ok (.iload 5, 2) := dk_21 5 (dk_at dksX5_over_0 18 rfl rfl)
theorem dX5_over_20 : decode cX5_over 20 = .ok (.invokevirtual 37, 3) := dk_182 0 37 (dk_at dksX5_over_0 20 rfl rfl)
theorem dX5_over_23 : decode cX5_over 23 = .ok (.aload_n 1, 1) := dk_43 (dk_at dksX5_over_0 23 rfl rfl)
theorem dX5_over_24 : decode cX5_over 24 = .ok (.iload 5, 2) := dk_21 5 (dk_at dksX5_over_1 0 rfl rfl)
theorem dX5_over_26 : decode cX5_over 26 = .ok (.invokevirtual 37, 3) := dk_182 0 37 (dk_at dksX5_over_1 2 rfl rfl)
theorem dX5_over_29 : decode cX5_over 29 = .ok (.isub, 1) := dk_100 (dk_at dksX5_over_1 5 rfl rfl)
theorem dX5_over_30 : decode cX5_over 30 = .ok (.istore 6, 2) := dk_54 6 (dk_at dksX5_over_1 6 rfl rfl)
theorem dX5_over_32 : decode cX5_over 32 = .ok (.iload 6, 2) := dk_21 6 (dk_at dksX5_over_1 8 rfl rfl)
theorem dX5_over_34 : decode cX5_over 34 = .ok (.iconst 0, 1) := dk_3 (dk_at dksX5_over_1 10 rfl rfl)
theorem dX5_over_35 : decode cX5_over 35 = .ok (.iload_n 2, 1) := dk_28 (dk_at dksX5_over_1 11 rfl rfl)
theorem dX5_over_36 : decode cX5_over 36 = .ok (.invokestatic 41, 3) := dk_184 0 41 (dk_at dksX5_over_1 12 rfl rfl)
theorem dX5_over_39 : decode cX5_over 39 = .ok (.ifCond .ne 6, 3) := dk_154 0 6 (dk_at dksX5_over_1 15 rfl rfl)
theorem dX5_over_42 : decode cX5_over 42 = .ok (.bipush (-6), 2) := dk_16 250 (dk_at dksX5_over_1 18 rfl rfl)
theorem dX5_over_44 : decode cX5_over 44 = .ok (.ireturn, 1) := dk_172 (dk_at dksX5_over_1 20 rfl rfl)
theorem dX5_over_45 : decode cX5_over 45 = .ok (.iload 4, 2) := dk_21 4 (dk_at dksX5_over_1 21 rfl rfl)
theorem dX5_over_47 : decode cX5_over 47 = .ok (.iload 6, 2) := dk_21 6 (dk_at dksX5_over_2 0 rfl rfl)
theorem dX5_over_49 : decode cX5_over 49 = .ok (.iadd, 1) := dk_96 (dk_at dksX5_over_2 2 rfl rfl)
theorem dX5_over_50 : decode cX5_over 50 = .ok (.istore 4, 2) := dk_54 4 (dk_at dksX5_over_2 3 rfl rfl)
theorem dX5_over_52 : decode cX5_over 52 = .ok (.iinc 5 1, 3) := dk_132 5 1 (dk_at dksX5_over_2 5 rfl rfl)
theorem dX5_over_55 : decode cX5_over 55 = .ok (.goto (-44), 3) := dk_167 255 212 (dk_at dksX5_over_2 8 rfl rfl)
theorem dX5_over_58 : decode cX5_over 58 = .ok (.iload 4, 2) := dk_21 4 (dk_at dksX5_over_2 11 rfl rfl)
theorem dX5_over_60 : decode cX5_over 60 = .ok (.ireturn, 1) := dk_172 (dk_at dksX5_over_2 13 rfl rfl)
theorem q109 : (Jvm.Cond.initialized "QuarryOrders$Sizes") ∈ lw_all := lw_g (lw_at lw_m1 21 rfl) rfl
theorem q479 : (Jvm.Cond.selects "QuarryOrders$Sizes" ({ cls := "java/lang/Object", name := "getClass", desc := "()Ljava/lang/Class;" } : Jvm.MethodName) ({ cls := "java/lang/Object", name := "getClass", desc := "()Ljava/lang/Class;" } : Jvm.MethodName)) ∈ lw_all := lw_g (lw_at lw_m2 151 rfl) rfl
theorem q544 : (Jvm.Cond.instantiable "QuarryOrders$Sizes" (3 : Nat)) ∈ lw_all := lw_g (lw_at lw_m2 216 rfl) rfl
theorem q546 : (Jvm.Cond.instanceMethod ({ cls := "QuarryOrders$Sizes", name := "<init>", desc := "(III)V" } : Jvm.MethodName)) ∈ lw_all := lw_g (lw_at lw_m2 218 rfl) rfl
theorem q547 : (Jvm.Cond.code ({ cls := "QuarryOrders$Sizes", name := "<init>", desc := "(III)V" } : Jvm.MethodName) prog_6_method_1_code (4 : Nat) (Option.none : Option Jvm.ClassFile.FieldType)) ∈ lw_all := lw_g (lw_at lw_m2 219 rfl) rfl
theorem q548 : (Jvm.Cond.methodLink "QuarryOrders$Sizes" (3 : Nat) ({ cls := "java/lang/Record", name := "<init>", desc := "()V" } : Jvm.MethodName)) ∈ lw_all := lw_g (lw_at lw_m2 220 rfl) rfl
theorem q552 : (Jvm.Cond.fieldLink "QuarryOrders$Sizes" (9 : Nat) "QuarryOrders$Sizes" "first" "I") ∈ lw_all := lw_g (lw_at lw_m2 224 rfl) rfl
theorem q553 : (Jvm.Cond.fieldLink "QuarryOrders$Sizes" (15 : Nat) "QuarryOrders$Sizes" "second" "I") ∈ lw_all := lw_g (lw_at lw_m2 225 rfl) rfl
theorem q554 : (Jvm.Cond.fieldLink "QuarryOrders$Sizes" (18 : Nat) "QuarryOrders$Sizes" "third" "I") ∈ lw_all := lw_g (lw_at lw_m2 226 rfl) rfl
theorem q555 : (Jvm.Cond.laysFinal "QuarryOrders$Sizes" "QuarryOrders$Sizes" "first" "I") ∈ lw_all := lw_g (lw_at lw_m2 227 rfl) rfl
theorem q556 : (Jvm.Cond.soleField "QuarryOrders$Sizes" "first") ∈ lw_all := lw_g (lw_at lw_m2 228 rfl) rfl
theorem q557 : (Jvm.Cond.laysFinal "QuarryOrders$Sizes" "QuarryOrders$Sizes" "second" "I") ∈ lw_all := lw_g (lw_at lw_m2 229 rfl) rfl
theorem q558 : (Jvm.Cond.soleField "QuarryOrders$Sizes" "second") ∈ lw_all := lw_g (lw_at lw_m2 230 rfl) rfl
theorem q559 : (Jvm.Cond.laysFinal "QuarryOrders$Sizes" "QuarryOrders$Sizes" "third" "I") ∈ lw_all := lw_g (lw_at lw_m2 231 rfl) rfl
theorem q560 : (Jvm.Cond.soleField "QuarryOrders$Sizes" "third") ∈ lw_all := lw_g (lw_at lw_m2 232 rfl) rfl
theorem q561 : (Jvm.Cond.superclass "QuarryOrders$Sizes" "java/lang/Record") ∈ lw_all := lw_g (lw_at lw_m2 233 rfl) rfl
theorem q576 : (Jvm.Cond.instanceMethod ({ cls := "QuarryOrders$Sizes", name := "weight", desc := "(I)I" } : Jvm.MethodName)) ∈ lw_all := lw_g (lw_at lw_m3 8 rfl) rfl
theorem q577 : (Jvm.Cond.selects "QuarryOrders$Sizes" ({ cls := "QuarryOrders$Sizes", name := "weight", desc := "(I)I" } : Jvm.MethodName) ({ cls := "QuarryOrders$Sizes", name := "weight", desc := "(I)I" } : Jvm.MethodName)) ∈ lw_all := lw_g (lw_at lw_m3 9 rfl) rfl
theorem q578 : (Jvm.Cond.code ({ cls := "QuarryOrders$Sizes", name := "weight", desc := "(I)I" } : Jvm.MethodName) prog_6_method_5_code (2 : Nat) (Option.some Jvm.ClassFile.FieldType.int)) ∈ lw_all := lw_g (lw_at lw_m3 10 rfl) rfl
theorem q626 : (Jvm.Cond.instanceMethod ({ cls := "QuarryOrders$Sizes", name := "of", desc := "(I)I" } : Jvm.MethodName)) ∈ lw_all := lw_g (lw_at lw_m3 58 rfl) rfl
theorem q627 : (Jvm.Cond.selects "QuarryOrders$Sizes" ({ cls := "QuarryOrders$Sizes", name := "of", desc := "(I)I" } : Jvm.MethodName) ({ cls := "QuarryOrders$Sizes", name := "of", desc := "(I)I" } : Jvm.MethodName)) ∈ lw_all := lw_g (lw_at lw_m3 59 rfl) rfl
theorem q628 : (Jvm.Cond.code ({ cls := "QuarryOrders$Sizes", name := "of", desc := "(I)I" } : Jvm.MethodName) prog_6_method_2_code (2 : Nat) (Option.some Jvm.ClassFile.FieldType.int)) ∈ lw_all := lw_g (lw_at lw_m3 60 rfl) rfl
theorem q638 : (Jvm.Cond.instanceMethod ({ cls := "QuarryOrders$Sizes", name := "with", desc := "(II)LQuarryOrders$Sizes;" } : Jvm.MethodName)) ∈ lw_all := lw_g (lw_at lw_m3 70 rfl) rfl
theorem q639 : (Jvm.Cond.selects "QuarryOrders$Sizes" ({ cls := "QuarryOrders$Sizes", name := "with", desc := "(II)LQuarryOrders$Sizes;" } : Jvm.MethodName) ({ cls := "QuarryOrders$Sizes", name := "with", desc := "(II)LQuarryOrders$Sizes;" } : Jvm.MethodName)) ∈ lw_all := lw_g (lw_at lw_m3 71 rfl) rfl
theorem q640 : (Jvm.Cond.code ({ cls := "QuarryOrders$Sizes", name := "with", desc := "(II)LQuarryOrders$Sizes;" } : Jvm.MethodName) prog_6_method_3_code (3 : Nat) (Option.some (Jvm.ClassFile.FieldType.object "QuarryOrders$Sizes"))) ∈ lw_all := lw_g (lw_at lw_m3 72 rfl) rfl
theorem q641 : (Jvm.Cond.classLink "QuarryOrders$Sizes" (10 : Nat) "QuarryOrders$Sizes") ∈ lw_all := lw_g (lw_at lw_m3 73 rfl) rfl
theorem q642 : (Jvm.Cond.methodLink "QuarryOrders$Sizes" (21 : Nat) ({ cls := "QuarryOrders$Sizes", name := "<init>", desc := "(III)V" } : Jvm.MethodName)) ∈ lw_all := lw_g (lw_at lw_m3 74 rfl) rfl
theorem q677 : (Jvm.Cond.instanceMethod ({ cls := "QuarryOrders$Sizes", name := "sorted", desc := "()LQuarryOrders$Sizes;" } : Jvm.MethodName)) ∈ lw_all := lw_g (lw_at lw_m3 109 rfl) rfl
theorem q678 : (Jvm.Cond.selects "QuarryOrders$Sizes" ({ cls := "QuarryOrders$Sizes", name := "sorted", desc := "()LQuarryOrders$Sizes;" } : Jvm.MethodName) ({ cls := "QuarryOrders$Sizes", name := "sorted", desc := "()LQuarryOrders$Sizes;" } : Jvm.MethodName)) ∈ lw_all := lw_g (lw_at lw_m3 110 rfl) rfl
theorem q679 : (Jvm.Cond.code ({ cls := "QuarryOrders$Sizes", name := "sorted", desc := "()LQuarryOrders$Sizes;" } : Jvm.MethodName) prog_6_method_4_code (3 : Nat) (Option.some (Jvm.ClassFile.FieldType.object "QuarryOrders$Sizes"))) ∈ lw_all := lw_g (lw_at lw_m3 111 rfl) rfl
theorem q680 : (Jvm.Cond.methodLink "QuarryOrders$Sizes" (24 : Nat) ({ cls := "java/lang/Math", name := "max", desc := "(II)I" } : Jvm.MethodName)) ∈ lw_all := lw_g (lw_at lw_m3 112 rfl) rfl
theorem q681 : (Jvm.Cond.methodLink "QuarryOrders$Sizes" (30 : Nat) ({ cls := "java/lang/Math", name := "min", desc := "(II)I" } : Jvm.MethodName)) ∈ lw_all := lw_g (lw_at lw_m3 113 rfl) rfl
theorem q712 : (Jvm.Cond.instanceMethod ({ cls := "QuarryOrders$Sizes", name := "over", desc := "(LQuarryOrders$Sizes;I)I" } : Jvm.MethodName)) ∈ lw_all := lw_g (lw_at lw_m3 144 rfl) rfl
theorem q713 : (Jvm.Cond.selects "QuarryOrders$Sizes" ({ cls := "QuarryOrders$Sizes", name := "over", desc := "(LQuarryOrders$Sizes;I)I" } : Jvm.MethodName) ({ cls := "QuarryOrders$Sizes", name := "over", desc := "(LQuarryOrders$Sizes;I)I" } : Jvm.MethodName)) ∈ lw_all := lw_g (lw_at lw_m3 145 rfl) rfl
theorem q714 : (Jvm.Cond.code ({ cls := "QuarryOrders$Sizes", name := "over", desc := "(LQuarryOrders$Sizes;I)I" } : Jvm.MethodName) prog_6_method_6_code (7 : Nat) (Option.some Jvm.ClassFile.FieldType.int)) ∈ lw_all := lw_g (lw_at lw_m3 146 rfl) rfl
theorem q715 : (Jvm.Cond.methodLink "QuarryOrders$Sizes" (33 : Nat) ({ cls := "QuarryOrders$Sizes", name := "sorted", desc := "()LQuarryOrders$Sizes;" } : Jvm.MethodName)) ∈ lw_all := lw_g (lw_at lw_m3 147 rfl) rfl
theorem q716 : (Jvm.Cond.methodLink "QuarryOrders$Sizes" (37 : Nat) ({ cls := "QuarryOrders$Sizes", name := "of", desc := "(I)I" } : Jvm.MethodName)) ∈ lw_all := lw_g (lw_at lw_m3 148 rfl) rfl
theorem q717 : (Jvm.Cond.methodLinkNest "QuarryOrders$Sizes" (41 : Nat) ({ cls := "QuarryOrders", name := "isIn", desc := "(III)Z" } : Jvm.MethodName) "QuarryOrders") ∈ lw_tbl := lw_at lw_m3 149 rfl
theorem q1612 : (Jvm.Cond.castable "QuarryOrders$Sizes" "java/lang/Object") ∈ lw_tbl := lw_at lw_m7 84 rfl
theorem in_X5 : ∀ w ∈ wsX50, w ∈ lw_all := lw_in wsX50 [555, 557, 559] (by decide +kernel) (by decide +kernel)

/-! QuarryOrders$Reader -/
set_option maxRecDepth 100000
def RX6 : String := "QuarryOrders$Reader"
def TX6 : u_T := fun k => match k with
  | 0 => ("QuarryOrders$Reader", "orders", "Ljava/util/List;", true)
  | 1 => ("QuarryOrders$Reader", "spot", "I", false)
  | 2 => ("QuarryOrders$Reader", "isWrong", "Z", false)
  | _ => ("QuarryOrders$Reader", "this$0", "LQuarryOrders;", true)
def tyX6 : Nat → FieldType := fun k => match k with
  | 0 => .object "java/util/List"
  | 1 => .int
  | 2 => .boolean
  | _ => .object "QuarryOrders"
abbrev wsX60 : List Cond := u_ws RX6 TX6 4
theorem nmX6 : ∀ a, a < 4 → ∀ b, b < 4 → a ≠ b → (TX6 a).2.1 ≠ (TX6 b).2.1 := by decide +kernel
theorem tyX6_ok : ∀ k, k < 4 → parseFieldDescriptor (TX6 k).2.2.1 = some (tyX6 k) := by decide +kernel
abbrev cX6_init : ByteArray := prog_5_method_1_code
def yX6_init : MethodName := ⟨RX6, "<init>", "(LQuarryOrders;)V"⟩
def dkwX6_init_2 : List UInt8 := [182, 0, 43, 42, 182, 0, 20, 167, 255, 225, 177]
abbrev dktX6_init_2 : List UInt8 := dkwX6_init_2 ++ []
def dkwX6_init_1 : List UInt8 := [42, 180, 0, 23, 154, 0, 30, 42, 180, 0, 27, 43, 180, 0, 31, 182, 0, 37, 162, 0, 16, 42, 16, 59]
abbrev dktX6_init_1 : List UInt8 := dkwX6_init_1 ++ dktX6_init_2
def dkwX6_init_0 : List UInt8 := [42, 43, 181, 0, 1, 42, 183, 0, 7, 42, 187, 0, 13, 89, 183, 0, 15, 181, 0, 16, 42, 182, 0, 20]
abbrev dktX6_init_0 : List UInt8 := dkwX6_init_0 ++ dktX6_init_1
theorem dksX6_init_0 : cX6_init.data.toList.drop 0 = dktX6_init_0 := by decide +kernel
theorem dksX6_init_1 : cX6_init.data.toList.drop 24 = dktX6_init_1 := dk_seg dksX6_init_0 24 rfl rfl
theorem dksX6_init_2 : cX6_init.data.toList.drop 48 = dktX6_init_2 := dk_seg dksX6_init_1 24 rfl rfl
theorem dX6_init_0 : decode cX6_init 0 = .ok (.aload_n 0, 1) := dk_42 (dk_at dksX6_init_0 0 rfl rfl)
theorem dX6_init_1 : decode cX6_init 1 = .ok (.aload_n 1, 1) := dk_43 (dk_at dksX6_init_0 1 rfl rfl)
theorem dX6_init_2 : decode cX6_init 2 = .ok (.putfield 1, 3) := dk_181 0 1 (dk_at dksX6_init_0 2 rfl rfl)
theorem dX6_init_5 : decode cX6_init 5 = .ok (.aload_n 0, 1) := dk_42 (dk_at dksX6_init_0 5 rfl rfl)
theorem dX6_init_6 : decode cX6_init 6 = .ok (.invokespecial 7, 3) := dk_183 0 7 (dk_at dksX6_init_0 6 rfl rfl)
theorem dX6_init_9 : decode cX6_init 9 = .ok (.aload_n 0, 1) := dk_42 (dk_at dksX6_init_0 9 rfl rfl)
theorem dX6_init_10 : decode cX6_init 10 = .ok (.new 13, 3) := dk_187 0 13 (dk_at dksX6_init_0 10 rfl rfl)
theorem dX6_init_13 : decode cX6_init 13 = .ok (.dup, 1) := dk_89 (dk_at dksX6_init_0 13 rfl rfl)
theorem dX6_init_14 : decode cX6_init 14 = .ok (.invokespecial 15, 3) := dk_183 0 15 (dk_at dksX6_init_0 14 rfl rfl)
theorem dX6_init_17 : decode cX6_init 17 = .ok (.putfield 16, 3) := dk_181 0 16 (dk_at dksX6_init_0 17 rfl rfl)
theorem dX6_init_20 : decode cX6_init 20 = .ok (.aload_n 0, 1) := dk_42 (dk_at dksX6_init_0 20 rfl rfl)
theorem dX6_init_21 : decode cX6_init 21 = .ok (.invokevirtual 20, 3) := dk_182 0 20 (dk_at dksX6_init_0 21 rfl rfl)
theorem dX6_init_24 : decode cX6_init 24 = .ok (.aload_n 0, 1) := dk_42 (dk_at dksX6_init_1 0 rfl rfl)
theorem dX6_init_25 : decode cX6_init 25 = .ok (.getfield 23, 3) := dk_180 0 23 (dk_at dksX6_init_1 1 rfl rfl)
theorem dX6_init_28 : decode cX6_init 28 = .ok (.ifCond .ne 30, 3) := dk_154 0 30 (dk_at dksX6_init_1 4 rfl rfl)
theorem dX6_init_31 : decode cX6_init 31 = .ok (.aload_n 0, 1) := dk_42 (dk_at dksX6_init_1 7 rfl rfl)
theorem dX6_init_32 : decode cX6_init 32 = .ok (.getfield 27, 3) := dk_180 0 27 (dk_at dksX6_init_1 8 rfl rfl)
theorem dX6_init_35 : decode cX6_init 35 = .ok (.aload_n 1, 1) := dk_43 (dk_at dksX6_init_1 11 rfl rfl)
theorem dX6_init_36 : decode cX6_init 36 = .ok (.getfield 31, 3) := dk_180 0 31 (dk_at dksX6_init_1 12 rfl rfl)
theorem dX6_init_39 : decode cX6_init 39 = .ok (.invokevirtual 37, 3) := dk_182 0 37 (dk_at dksX6_init_1 15 rfl rfl)
theorem dX6_init_42 : decode cX6_init 42 = .ok (.if_icmp .ge 16, 3) := dk_162 0 16 (dk_at dksX6_init_1 18 rfl rfl)
theorem dX6_init_45 : decode cX6_init 45 = .ok (.aload_n 0, 1) := dk_42 (dk_at dksX6_init_1 21 rfl rfl)
theorem dX6_init_46 : decode cX6_init 46 = .ok (.bipush 59, 2) := dk_16 59 (dk_at dksX6_init_1 22 rfl rfl)
theorem dX6_init_48 : decode cX6_init 48 = .ok (.invokevirtual 43, 3) := dk_182 0 43 (dk_at dksX6_init_2 0 rfl rfl)
theorem dX6_init_51 : decode cX6_init 51 = .ok (.aload_n 0, 1) := dk_42 (dk_at dksX6_init_2 3 rfl rfl)
theorem dX6_init_52 : decode cX6_init 52 = .ok (.invokevirtual 20, 3) := dk_182 0 20 (dk_at dksX6_init_2 4 rfl rfl)
theorem dX6_init_55 : decode cX6_init 55 = .ok (.goto (-31), 3) := dk_167 255 225 (dk_at dksX6_init_2 7 rfl rfl)
theorem dX6_init_58 : decode cX6_init 58 = .ok (.return_, 1) := dk_177 (dk_at dksX6_init_2 10 rfl rfl)
abbrev cX6_readOrder : ByteArray := prog_5_method_14_code
def yX6_readOrder : MethodName := ⟨RX6, "readOrder", "()V"⟩
def dkwX6_readOrder_2 : List UInt8 := [42, 180, 0, 16, 42, 27, 182, 0, 102, 185, 0, 105, 2, 0, 87, 177]
abbrev dktX6_readOrder_2 : List UInt8 := dkwX6_readOrder_2 ++ []
def dkwX6_readOrder_1 : List UInt8 := [167, 0, 4, 3, 181, 0, 23, 42, 180, 0, 23, 154, 0, 28, 42, 89, 180, 0, 27, 4, 96, 181, 0, 27]
abbrev dktX6_readOrder_1 : List UInt8 := dkwX6_readOrder_1 ++ dktX6_readOrder_2
def dkwX6_readOrder_0 : List UInt8 := [42, 182, 0, 51, 60, 42, 42, 180, 0, 23, 154, 0, 12, 18, 94, 27, 182, 0, 96, 156, 0, 7, 4]
abbrev dktX6_readOrder_0 : List UInt8 := dkwX6_readOrder_0 ++ dktX6_readOrder_1
theorem dksX6_readOrder_0 : cX6_readOrder.data.toList.drop 0 = dktX6_readOrder_0 := by decide +kernel
theorem dksX6_readOrder_1 : cX6_readOrder.data.toList.drop 23 = dktX6_readOrder_1 := dk_seg dksX6_readOrder_0 23 rfl rfl
theorem dksX6_readOrder_2 : cX6_readOrder.data.toList.drop 47 = dktX6_readOrder_2 := dk_seg dksX6_readOrder_1 24 rfl rfl
theorem dX6_readOrder_0 : decode cX6_readOrder 0 = .ok (.aload_n 0, 1) := dk_42 (dk_at dksX6_readOrder_0 0 rfl rfl)
theorem dX6_readOrder_1 : decode cX6_readOrder 1 = .ok (.invokevirtual 51, 3) := dk_182 0 51 (dk_at dksX6_readOrder_0 1 rfl rfl)
theorem dX6_readOrder_4 : decode cX6_readOrder 4 = .ok (.istore_n 1, 1) := dk_60 (dk_at dksX6_readOrder_0 4 rfl rfl)
theorem dX6_readOrder_5 : decode cX6_readOrder 5 = .ok (.aload_n 0, 1) := dk_42 (dk_at dksX6_readOrder_0 5 rfl rfl)
theorem dX6_readOrder_6 : decode cX6_readOrder 6 = .ok (.aload_n 0, 1) := dk_42 (dk_at dksX6_readOrder_0 6 rfl rfl)
theorem dX6_readOrder_7 : decode cX6_readOrder 7 = .ok (.getfield 23, 3) := dk_180 0 23 (dk_at dksX6_readOrder_0 7 rfl rfl)
theorem dX6_readOrder_10 : decode cX6_readOrder 10 = .ok (.ifCond .ne 12, 3) := dk_154 0 12 (dk_at dksX6_readOrder_0 10 rfl rfl)
theorem dX6_readOrder_13 : decode cX6_readOrder 13 = .ok (.ldc 94, 2) := dk_18 94 (dk_at dksX6_readOrder_0 13 rfl rfl)
theorem dX6_readOrder_15 : decode cX6_readOrder 15 = .ok (.iload_n 1, 1) := dk_27 (dk_at dksX6_readOrder_0 15 rfl rfl)
theorem dX6_readOrder_16 : decode cX6_readOrder 16 = .ok (.invokevirtual 96, 3) := dk_182 0 96 (dk_at dksX6_readOrder_0 16 rfl rfl)
theorem dX6_readOrder_19 : decode cX6_readOrder 19 = .ok (.ifCond .ge 7, 3) := dk_156 0 7 (dk_at dksX6_readOrder_0 19 rfl rfl)
theorem dX6_readOrder_22 : decode cX6_readOrder 22 = .ok (.iconst 1, 1) := dk_4 (dk_at dksX6_readOrder_0 22 rfl rfl)
theorem dX6_readOrder_23 : decode cX6_readOrder 23 = .ok (.goto 4, 3) := dk_167 0 4 (dk_at dksX6_readOrder_1 0 rfl rfl)
theorem dX6_readOrder_26 : decode cX6_readOrder 26 = .ok (.iconst 0, 1) := dk_3 (dk_at dksX6_readOrder_1 3 rfl rfl)
theorem dX6_readOrder_27 : decode cX6_readOrder 27 = .ok (.putfield 23, 3) := dk_181 0 23 (dk_at dksX6_readOrder_1 4 rfl rfl)
theorem dX6_readOrder_30 : decode cX6_readOrder 30 = .ok (.aload_n 0, 1) := dk_42 (dk_at dksX6_readOrder_1 7 rfl rfl)
theorem dX6_readOrder_31 : decode cX6_readOrder 31 = .ok (.getfield 23, 3) := dk_180 0 23 (dk_at dksX6_readOrder_1 8 rfl rfl)
theorem dX6_readOrder_34 : decode cX6_readOrder 34 = .ok (.ifCond .ne 28, 3) := dk_154 0 28 (dk_at dksX6_readOrder_1 11 rfl rfl)
theorem dX6_readOrder_37 : decode cX6_readOrder 37 = .ok (.aload_n 0, 1) := dk_42 (dk_at dksX6_readOrder_1 14 rfl rfl)
theorem dX6_readOrder_38 : decode cX6_readOrder 38 = .ok (.dup, 1) := dk_89 (dk_at dksX6_readOrder_1 15 rfl rfl)
theorem dX6_readOrder_39 : decode cX6_readOrder 39 = .ok (.getfield 27, 3) := dk_180 0 27 (dk_at dksX6_readOrder_1 16 rfl rfl)
theorem dX6_readOrder_42 : decode cX6_readOrder 42 = .ok (.iconst 1, 1) := dk_4 (dk_at dksX6_readOrder_1 19 rfl rfl)
theorem dX6_readOrder_43 : decode cX6_readOrder 43 = .ok (.iadd, 1) := dk_96 (dk_at dksX6_readOrder_1 20 rfl rfl)
theorem dX6_readOrder_44 : decode cX6_readOrder 44 = .ok (.putfield 27, 3) := dk_181 0 27 (dk_at dksX6_readOrder_1 21 rfl rfl)
theorem dX6_readOrder_47 : decode cX6_readOrder 47 = .ok (.aload_n 0, 1) := dk_42 (dk_at dksX6_readOrder_2 0 rfl rfl)
theorem dX6_readOrder_48 : decode cX6_readOrder 48 = .ok (.getfield 16, 3) := dk_180 0 16 (dk_at dksX6_readOrder_2 1 rfl rfl)
theorem dX6_readOrder_51 : decode cX6_readOrder 51 = .ok (.aload_n 0, 1) := dk_42 (dk_at dksX6_readOrder_2 4 rfl rfl)
theorem dX6_readOrder_52 : decode cX6_readOrder 52 = .ok (.iload_n 1, 1) := dk_27 (dk_at dksX6_readOrder_2 5 rfl rfl)
theorem dX6_readOrder_53 : decode cX6_readOrder 53 = .ok (.invokevirtual 102, 3) := dk_182 0 102 (dk_at dksX6_readOrder_2 6 rfl rfl)
theorem dX6_readOrder_56 : decode cX6_readOrder 56 = .ok (.invokeinterface 105 2, 5) := by decide +kernel
theorem dX6_readOrder_61 : decode cX6_readOrder 61 = .ok (.pop, 1) := dk_87 (dk_at dksX6_readOrder_2 14 rfl rfl)
theorem dX6_readOrder_62 : decode cX6_readOrder 62 = .ok (.return_, 1) := dk_177 (dk_at dksX6_readOrder_2 15 rfl rfl)
abbrev cX6_next : ByteArray := prog_5_method_2_code
def yX6_next : MethodName := ⟨RX6, "next", "()C"⟩
def dkwX6_next_1 : List UInt8 := [42, 180, 0, 27, 182, 0, 47, 167, 0, 4, 3, 172]
abbrev dktX6_next_1 : List UInt8 := dkwX6_next_1 ++ []
def dkwX6_next_0 : List UInt8 := [42, 180, 0, 27, 42, 180, 0, 1, 180, 0, 31, 182, 0, 37, 162, 0, 20, 42, 180, 0, 1, 180, 0, 31]
abbrev dktX6_next_0 : List UInt8 := dkwX6_next_0 ++ dktX6_next_1
theorem dksX6_next_0 : cX6_next.data.toList.drop 0 = dktX6_next_0 := by decide +kernel
theorem dksX6_next_1 : cX6_next.data.toList.drop 24 = dktX6_next_1 := dk_seg dksX6_next_0 24 rfl rfl
theorem dX6_next_0 : decode cX6_next 0 = .ok (.aload_n 0, 1) := dk_42 (dk_at dksX6_next_0 0 rfl rfl)
theorem dX6_next_1 : decode cX6_next 1 = .ok (.getfield 27, 3) := dk_180 0 27 (dk_at dksX6_next_0 1 rfl rfl)
theorem dX6_next_4 : decode cX6_next 4 = .ok (.aload_n 0, 1) := dk_42 (dk_at dksX6_next_0 4 rfl rfl)
theorem dX6_next_5 : decode cX6_next 5 = .ok (.getfield 1, 3) := dk_180 0 1 (dk_at dksX6_next_0 5 rfl rfl)
theorem dX6_next_8 : decode cX6_next 8 = .ok (.getfield 31, 3) := dk_180 0 31 (dk_at dksX6_next_0 8 rfl rfl)
theorem dX6_next_11 : decode cX6_next 11 = .ok (.invokevirtual 37, 3) := dk_182 0 37 (dk_at dksX6_next_0 11 rfl rfl)
theorem dX6_next_14 : decode cX6_next 14 = .ok (.if_icmp .ge 20, 3) := dk_162 0 20 (dk_at dksX6_next_0 14 rfl rfl)
theorem dX6_next_17 : decode cX6_next 17 = .ok (.aload_n 0, 1) := dk_42 (dk_at dksX6_next_0 17 rfl rfl)
theorem dX6_next_18 : decode cX6_next 18 = .ok (.getfield 1, 3) := dk_180 0 1 (dk_at dksX6_next_0 18 rfl rfl)
theorem dX6_next_21 : decode cX6_next 21 = .ok (.getfield 31, 3) := dk_180 0 31 (dk_at dksX6_next_0 21 rfl rfl)
theorem dX6_next_24 : decode cX6_next 24 = .ok (.aload_n 0, 1) := dk_42 (dk_at dksX6_next_1 0 rfl rfl)
theorem dX6_next_25 : decode cX6_next 25 = .ok (.getfield 27, 3) := dk_180 0 27 (dk_at dksX6_next_1 1 rfl rfl)
theorem dX6_next_28 : decode cX6_next 28 = .ok (.invokevirtual 47, 3) := dk_182 0 47 (dk_at dksX6_next_1 4 rfl rfl)
theorem dX6_next_31 : decode cX6_next 31 = .ok (.goto 4, 3) := dk_167 0 4 (dk_at dksX6_next_1 7 rfl rfl)
theorem dX6_next_34 : decode cX6_next 34 = .ok (.iconst 0, 1) := dk_3 (dk_at dksX6_next_1 10 rfl rfl)
theorem dX6_next_35 : decode cX6_next 35 = .ok (.ireturn, 1) := dk_172 (dk_at dksX6_next_1 11 rfl rfl)
abbrev cX6_order : ByteArray := prog_5_method_13_code
def yX6_order : MethodName := ⟨RX6, "order", "(C)[I"⟩
def dkwX6_order_6 : List UInt8 := [42, 27, 182, 0, 90, 176]
abbrev dktX6_order_6 : List UInt8 := dkwX6_order_6 ++ []
def dkwX6_order_5 : List UInt8 := [79, 182, 0, 75, 176, 42, 5, 188, 10, 89, 3, 27, 79, 89, 4, 42, 182, 0, 59, 79, 182, 0, 75, 176]
abbrev dktX6_order_5 : List UInt8 := dkwX6_order_5 ++ dktX6_order_6
def dkwX6_order_4 : List UInt8 := [182, 0, 62, 62, 42, 5, 188, 10, 89, 3, 27, 79, 89, 4, 28, 153, 0, 8, 29, 116, 167, 0, 4, 29]
abbrev dktX6_order_4 : List UInt8 := dkwX6_order_4 ++ dktX6_order_5
def dkwX6_order_3 : List UInt8 := [42, 16, 61, 182, 0, 71, 79, 182, 0, 75, 176, 42, 182, 0, 83, 176, 42, 16, 45, 182, 0, 86, 61, 42]
abbrev dktX6_order_3 : List UInt8 := dkwX6_order_3 ++ dktX6_order_4
def dkwX6_order_2 : List UInt8 := [42, 182, 0, 79, 176, 42, 182, 0, 62, 61, 42, 6, 188, 10, 89, 3, 27, 79, 89, 4, 28, 79, 89, 5]
abbrev dktX6_order_2 : List UInt8 := dkwX6_order_2 ++ dktX6_order_3
def dkwX6_order_1 : List UInt8 := [170, 0, 0, 0, 0, 0, 159, 0, 0, 0, 99, 0, 0, 0, 110, 0, 0, 0, 63, 0, 0, 0, 140, 0, 0, 0, 159, 0, 0, 0, 159, 0, 0, 0, 68, 0, 0, 0, 159, 0, 0, 0, 159, 0, 0, 0, 159, 0, 0, 0, 159, 0, 0, 0, 98, 0, 0, 0, 159, 0, 0, 0, 103]
abbrev dktX6_order_1 : List UInt8 := dkwX6_order_1 ++ dktX6_order_2
def dkwX6_order_0 : List UInt8 := [27]
abbrev dktX6_order_0 : List UInt8 := dkwX6_order_0 ++ dktX6_order_1
theorem dksX6_order_0 : cX6_order.data.toList.drop 0 = dktX6_order_0 := by decide +kernel
theorem dksX6_order_1 : cX6_order.data.toList.drop 1 = dktX6_order_1 := dk_seg dksX6_order_0 1 rfl rfl
theorem dksX6_order_2 : cX6_order.data.toList.drop 64 = dktX6_order_2 := dk_seg dksX6_order_1 63 rfl rfl
theorem dksX6_order_3 : cX6_order.data.toList.drop 88 = dktX6_order_3 := dk_seg dksX6_order_2 24 rfl rfl
theorem dksX6_order_4 : cX6_order.data.toList.drop 112 = dktX6_order_4 := dk_seg dksX6_order_3 24 rfl rfl
theorem dksX6_order_5 : cX6_order.data.toList.drop 136 = dktX6_order_5 := dk_seg dksX6_order_4 24 rfl rfl
theorem dksX6_order_6 : cX6_order.data.toList.drop 160 = dktX6_order_6 := dk_seg dksX6_order_5 24 rfl rfl
theorem dX6_order_0 : decode cX6_order 0 = .ok (.iload_n 1, 1) := dk_27 (dk_at dksX6_order_0 0 rfl rfl)
theorem dX6_order_1 : decode cX6_order 1 = .ok (.tableswitch 159 99 110 #[63, 140, 159, 159, 68, 159, 159, 159, 159, 98, 159, 103], 63) := by decide +kernel
theorem dX6_order_64 : decode cX6_order 64 = .ok (.aload_n 0, 1) := dk_42 (dk_at dksX6_order_2 0 rfl rfl)
theorem dX6_order_65 : decode cX6_order 65 = .ok (.invokevirtual 79, 3) := dk_182 0 79 (dk_at dksX6_order_2 1 rfl rfl)
theorem dX6_order_68 : decode cX6_order 68 = .ok (.areturn, 1) := dk_176 (dk_at dksX6_order_2 4 rfl rfl)
theorem dX6_order_69 : decode cX6_order 69 = .ok (.aload_n 0, 1) := dk_42 (dk_at dksX6_order_2 5 rfl rfl)
theorem dX6_order_70 : decode cX6_order 70 = .ok (.invokevirtual 62, 3) := dk_182 0 62 (dk_at dksX6_order_2 6 rfl rfl)
theorem dX6_order_73 : decode cX6_order 73 = .ok (.istore_n 2, 1) := dk_61 (dk_at dksX6_order_2 9 rfl rfl)
theorem dX6_order_74 : decode cX6_order 74 = .ok (.aload_n 0, 1) := dk_42 (dk_at dksX6_order_2 10 rfl rfl)
theorem dX6_order_75 : decode cX6_order 75 = .ok (.iconst 3, 1) := dk_6 (dk_at dksX6_order_2 11 rfl rfl)
theorem dX6_order_76 : decode cX6_order 76 = .ok (.newarray .int, 2) := dk_188_10 (dk_at dksX6_order_2 12 rfl rfl)
theorem dX6_order_78 : decode cX6_order 78 = .ok (.dup, 1) := dk_89 (dk_at dksX6_order_2 14 rfl rfl)
theorem dX6_order_79 : decode cX6_order 79 = .ok (.iconst 0, 1) := dk_3 (dk_at dksX6_order_2 15 rfl rfl)
theorem dX6_order_80 : decode cX6_order 80 = .ok (.iload_n 1, 1) := dk_27 (dk_at dksX6_order_2 16 rfl rfl)
theorem dX6_order_81 : decode cX6_order 81 = .ok (.iastore, 1) := dk_79 (dk_at dksX6_order_2 17 rfl rfl)
theorem dX6_order_82 : decode cX6_order 82 = .ok (.dup, 1) := dk_89 (dk_at dksX6_order_2 18 rfl rfl)
theorem dX6_order_83 : decode cX6_order 83 = .ok (.iconst 1, 1) := dk_4 (dk_at dksX6_order_2 19 rfl rfl)
theorem dX6_order_84 : decode cX6_order 84 = .ok (.iload_n 2, 1) := dk_28 (dk_at dksX6_order_2 20 rfl rfl)
theorem dX6_order_85 : decode cX6_order 85 = .ok (.iastore, 1) := dk_79 (dk_at dksX6_order_2 21 rfl rfl)
theorem dX6_order_86 : decode cX6_order 86 = .ok (.dup, 1) := dk_89 (dk_at dksX6_order_2 22 rfl rfl)
theorem dX6_order_87 : decode cX6_order 87 = .ok (.iconst 2, 1) := dk_5 (dk_at dksX6_order_2 23 rfl rfl)
theorem dX6_order_88 : decode cX6_order 88 = .ok (.aload_n 0, 1) := dk_42 (dk_at dksX6_order_3 0 rfl rfl)
theorem dX6_order_89 : decode cX6_order 89 = .ok (.bipush 61, 2) := dk_16 61 (dk_at dksX6_order_3 1 rfl rfl)
theorem dX6_order_91 : decode cX6_order 91 = .ok (.invokevirtual 71, 3) := dk_182 0 71 (dk_at dksX6_order_3 3 rfl rfl)
theorem dX6_order_94 : decode cX6_order 94 = .ok (.iastore, 1) := dk_79 (dk_at dksX6_order_3 6 rfl rfl)
theorem dX6_order_95 : decode cX6_order 95 = .ok (.invokevirtual 75, 3) := dk_182 0 75 (dk_at dksX6_order_3 7 rfl rfl)
theorem dX6_order_98 : decode cX6_order 98 = .ok (.areturn, 1) := dk_176 (dk_at dksX6_order_3 10 rfl rfl)
theorem dX6_order_99 : decode cX6_order 99 = .ok (.aload_n 0, 1) := dk_42 (dk_at dksX6_order_3 11 rfl rfl)
theorem dX6_order_100 : decode cX6_order 100 = .ok (.invokevirtual 83, 3) := dk_182 0 83 (dk_at dksX6_order_3 12 rfl rfl)
theorem dX6_order_103 : decode cX6_order 103 = .ok (.areturn, 1) := dk_176 (dk_at dksX6_order_3 15 rfl rfl)
theorem dX6_order_104 : decode cX6_order 104 = .ok (.aload_n 0, 1) := dk_42 (dk_at dksX6_order_3 16 rfl rfl)
theorem dX6_order_105 : decode cX6_order 105 = .ok (.bipush 45, 2) := dk_16 45 (dk_at dksX6_order_3 17 rfl rfl)
theorem dX6_order_107 : decode cX6_order 107 = .ok (.invokevirtual 86, 3) := dk_182 0 86 (dk_at dksX6_order_3 19 rfl rfl)
theorem dX6_order_110 : decode cX6_order 110 = .ok (.istore_n 2, 1) := dk_61 (dk_at dksX6_order_3 22 rfl rfl)
theorem dX6_order_111 : decode cX6_order 111 = .ok (.aload_n 0, 1) := dk_42 (dk_at dksX6_order_3 23 rfl rfl)
theorem dX6_order_112 : decode cX6_order 112 = .ok (.invokevirtual 62, 3) := dk_182 0 62 (dk_at dksX6_order_4 0 rfl rfl)
theorem dX6_order_115 : decode cX6_order 115 = .ok (.istore_n 3, 1) := dk_62 (dk_at dksX6_order_4 3 rfl rfl)
theorem dX6_order_116 : decode cX6_order 116 = .ok (.aload_n 0, 1) := dk_42 (dk_at dksX6_order_4 4 rfl rfl)
theorem dX6_order_117 : decode cX6_order 117 = .ok (.iconst 2, 1) := dk_5 (dk_at dksX6_order_4 5 rfl rfl)
theorem dX6_order_118 : decode cX6_order 118 = .ok (.newarray .int, 2) := dk_188_10 (dk_at dksX6_order_4 6 rfl rfl)
theorem dX6_order_120 : decode cX6_order 120 = .ok (.dup, 1) := dk_89 (dk_at dksX6_order_4 8 rfl rfl)
theorem dX6_order_121 : decode cX6_order 121 = .ok (.iconst 0, 1) := dk_3 (dk_at dksX6_order_4 9 rfl rfl)
theorem dX6_order_122 : decode cX6_order 122 = .ok (.iload_n 1, 1) := dk_27 (dk_at dksX6_order_4 10 rfl rfl)
theorem dX6_order_123 : decode cX6_order 123 = .ok (.iastore, 1) := dk_79 (dk_at dksX6_order_4 11 rfl rfl)
theorem dX6_order_124 : decode cX6_order 124 = .ok (.dup, 1) := dk_89 (dk_at dksX6_order_4 12 rfl rfl)
theorem dX6_order_125 : decode cX6_order 125 = .ok (.iconst 1, 1) := dk_4 (dk_at dksX6_order_4 13 rfl rfl)
theorem dX6_order_126 : decode cX6_order 126 = .ok (.iload_n 2, 1) := dk_28 (dk_at dksX6_order_4 14 rfl rfl)
theorem dX6_order_127 : decode cX6_order 127 = .ok (.ifCond .eq 8, 3) := dk_153 0 8 (dk_at dksX6_order_4 15 rfl rfl)
theorem dX6_order_130 : decode cX6_order 130 = .ok (.iload_n 3, 1) := dk_29 (dk_at dksX6_order_4 18 rfl rfl)
theorem dX6_order_131 : decode cX6_order 131 = .ok (.ineg, 1) := dk_116 (dk_at dksX6_order_4 19 rfl rfl)
theorem dX6_order_132 : decode cX6_order 132 = .ok (.goto 4, 3) := dk_167 0 4 (dk_at dksX6_order_4 20 rfl rfl)
theorem dX6_order_135 : decode cX6_order 135 = .ok (.iload_n 3, 1) := dk_29 (dk_at dksX6_order_4 23 rfl rfl)
theorem dX6_order_136 : decode cX6_order 136 = .ok (.iastore, 1) := dk_79 (dk_at dksX6_order_5 0 rfl rfl)
theorem dX6_order_137 : decode cX6_order 137 = .ok (.invokevirtual 75, 3) := dk_182 0 75 (dk_at dksX6_order_5 1 rfl rfl)
theorem dX6_order_140 : decode cX6_order 140 = .ok (.areturn, 1) := dk_176 (dk_at dksX6_order_5 4 rfl rfl)
theorem dX6_order_141 : decode cX6_order 141 = .ok (.aload_n 0, 1) := dk_42 (dk_at dksX6_order_5 5 rfl rfl)
theorem dX6_order_142 : decode cX6_order 142 = .ok (.iconst 2, 1) := dk_5 (dk_at dksX6_order_5 6 rfl rfl)
theorem dX6_order_143 : decode cX6_order 143 = .ok (.newarray .int, 2) := dk_188_10 (dk_at dksX6_order_5 7 rfl rfl)
theorem dX6_order_145 : decode cX6_order 145 = .ok (.dup, 1) := dk_89 (dk_at dksX6_order_5 9 rfl rfl)
theorem dX6_order_146 : decode cX6_order 146 = .ok (.iconst 0, 1) := dk_3 (dk_at dksX6_order_5 10 rfl rfl)
theorem dX6_order_147 : decode cX6_order 147 = .ok (.iload_n 1, 1) := dk_27 (dk_at dksX6_order_5 11 rfl rfl)
theorem dX6_order_148 : decode cX6_order 148 = .ok (.iastore, 1) := dk_79 (dk_at dksX6_order_5 12 rfl rfl)
theorem dX6_order_149 : decode cX6_order 149 = .ok (.dup, 1) := dk_89 (dk_at dksX6_order_5 13 rfl rfl)
theorem dX6_order_150 : decode cX6_order 150 = .ok (.iconst 1, 1) := dk_4 (dk_at dksX6_order_5 14 rfl rfl)
theorem dX6_order_151 : decode cX6_order 151 = .ok (.aload_n 0, 1) := dk_42 (dk_at dksX6_order_5 15 rfl rfl)
theorem dX6_order_152 : decode cX6_order 152 = .ok (.invokevirtual 59, 3) := dk_182 0 59 (dk_at dksX6_order_5 16 rfl rfl)
theorem dX6_order_155 : decode cX6_order 155 = .ok (.iastore, 1) := dk_79 (dk_at dksX6_order_5 19 rfl rfl)
theorem dX6_order_156 : decode cX6_order 156 = .ok (.invokevirtual 75, 3) := dk_182 0 75 (dk_at dksX6_order_5 20 rfl rfl)
theorem dX6_order_159 : decode cX6_order 159 = .ok (.areturn, 1) := dk_176 (dk_at dksX6_order_5 23 rfl rfl)
theorem dX6_order_160 : decode cX6_order 160 = .ok (.aload_n 0, 1) := dk_42 (dk_at dksX6_order_6 0 rfl rfl)
theorem dX6_order_161 : decode cX6_order 161 = .ok (.iload_n 1, 1) := dk_27 (dk_at dksX6_order_6 1 rfl rfl)
theorem dX6_order_162 : decode cX6_order 162 = .ok (.invokevirtual 90, 3) := dk_182 0 90 (dk_at dksX6_order_6 2 rfl rfl)
theorem dX6_order_165 : decode cX6_order 165 = .ok (.areturn, 1) := dk_176 (dk_at dksX6_order_6 5 rfl rfl)
abbrev cX6_cut : ByteArray := prog_5_method_11_code
def yX6_cut : MethodName := ⟨RX6, "cut", "()[I"⟩
def dkwX6_cut_1 : List UInt8 := [79, 89, 4, 27, 79, 89, 5, 28, 79, 89, 6, 42, 16, 64, 182, 0, 71, 79, 182, 0, 75, 176]
abbrev dktX6_cut_1 : List UInt8 := dkwX6_cut_1 ++ []
def dkwX6_cut_0 : List UInt8 := [42, 182, 0, 62, 60, 42, 16, 46, 182, 0, 43, 42, 182, 0, 59, 61, 42, 7, 188, 10, 89, 3, 16, 99]
abbrev dktX6_cut_0 : List UInt8 := dkwX6_cut_0 ++ dktX6_cut_1
theorem dksX6_cut_0 : cX6_cut.data.toList.drop 0 = dktX6_cut_0 := by decide +kernel
theorem dksX6_cut_1 : cX6_cut.data.toList.drop 24 = dktX6_cut_1 := dk_seg dksX6_cut_0 24 rfl rfl
theorem dX6_cut_0 : decode cX6_cut 0 = .ok (.aload_n 0, 1) := dk_42 (dk_at dksX6_cut_0 0 rfl rfl)
theorem dX6_cut_1 : decode cX6_cut 1 = .ok (.invokevirtual 62, 3) := dk_182 0 62 (dk_at dksX6_cut_0 1 rfl rfl)
theorem dX6_cut_4 : decode cX6_cut 4 = .ok (.istore_n 1, 1) := dk_60 (dk_at dksX6_cut_0 4 rfl rfl)
theorem dX6_cut_5 : decode cX6_cut 5 = .ok (.aload_n 0, 1) := dk_42 (dk_at dksX6_cut_0 5 rfl rfl)
theorem dX6_cut_6 : decode cX6_cut 6 = .ok (.bipush 46, 2) := dk_16 46 (dk_at dksX6_cut_0 6 rfl rfl)
theorem dX6_cut_8 : decode cX6_cut 8 = .ok (.invokevirtual 43, 3) := dk_182 0 43 (dk_at dksX6_cut_0 8 rfl rfl)
theorem dX6_cut_11 : decode cX6_cut 11 = .ok (.aload_n 0, 1) := dk_42 (dk_at dksX6_cut_0 11 rfl rfl)
theorem dX6_cut_12 : decode cX6_cut 12 = .ok (.invokevirtual 59, 3) := dk_182 0 59 (dk_at dksX6_cut_0 12 rfl rfl)
theorem dX6_cut_15 : decode cX6_cut 15 = .ok (.istore_n 2, 1) := dk_61 (dk_at dksX6_cut_0 15 rfl rfl)
theorem dX6_cut_16 : decode cX6_cut 16 = .ok (.aload_n 0, 1) := dk_42 (dk_at dksX6_cut_0 16 rfl rfl)
theorem dX6_cut_17 : decode cX6_cut 17 = .ok (.iconst 4, 1) := dk_7 (dk_at dksX6_cut_0 17 rfl rfl)
theorem dX6_cut_18 : decode cX6_cut 18 = .ok (.newarray .int, 2) := dk_188_10 (dk_at dksX6_cut_0 18 rfl rfl)
theorem dX6_cut_20 : decode cX6_cut 20 = .ok (.dup, 1) := dk_89 (dk_at dksX6_cut_0 20 rfl rfl)
theorem dX6_cut_21 : decode cX6_cut 21 = .ok (.iconst 0, 1) := dk_3 (dk_at dksX6_cut_0 21 rfl rfl)
theorem dX6_cut_22 : decode cX6_cut 22 = .ok (.bipush 99, 2) := dk_16 99 (dk_at dksX6_cut_0 22 rfl rfl)
theorem dX6_cut_24 : decode cX6_cut 24 = .ok (.iastore, 1) := dk_79 (dk_at dksX6_cut_1 0 rfl rfl)
theorem dX6_cut_25 : decode cX6_cut 25 = .ok (.dup, 1) := dk_89 (dk_at dksX6_cut_1 1 rfl rfl)
theorem dX6_cut_26 : decode cX6_cut 26 = .ok (.iconst 1, 1) := dk_4 (dk_at dksX6_cut_1 2 rfl rfl)
theorem dX6_cut_27 : decode cX6_cut 27 = .ok (.iload_n 1, 1) := dk_27 (dk_at dksX6_cut_1 3 rfl rfl)
theorem dX6_cut_28 : decode cX6_cut 28 = .ok (.iastore, 1) := dk_79 (dk_at dksX6_cut_1 4 rfl rfl)
theorem dX6_cut_29 : decode cX6_cut 29 = .ok (.dup, 1) := dk_89 (dk_at dksX6_cut_1 5 rfl rfl)
theorem dX6_cut_30 : decode cX6_cut 30 = .ok (.iconst 2, 1) := dk_5 (dk_at dksX6_cut_1 6 rfl rfl)
theorem dX6_cut_31 : decode cX6_cut 31 = .ok (.iload_n 2, 1) := dk_28 (dk_at dksX6_cut_1 7 rfl rfl)
theorem dX6_cut_32 : decode cX6_cut 32 = .ok (.iastore, 1) := dk_79 (dk_at dksX6_cut_1 8 rfl rfl)
theorem dX6_cut_33 : decode cX6_cut 33 = .ok (.dup, 1) := dk_89 (dk_at dksX6_cut_1 9 rfl rfl)
theorem dX6_cut_34 : decode cX6_cut 34 = .ok (.iconst 3, 1) := dk_6 (dk_at dksX6_cut_1 10 rfl rfl)
theorem dX6_cut_35 : decode cX6_cut 35 = .ok (.aload_n 0, 1) := dk_42 (dk_at dksX6_cut_1 11 rfl rfl)
theorem dX6_cut_36 : decode cX6_cut 36 = .ok (.bipush 64, 2) := dk_16 64 (dk_at dksX6_cut_1 12 rfl rfl)
theorem dX6_cut_38 : decode cX6_cut 38 = .ok (.invokevirtual 71, 3) := dk_182 0 71 (dk_at dksX6_cut_1 14 rfl rfl)
theorem dX6_cut_41 : decode cX6_cut 41 = .ok (.iastore, 1) := dk_79 (dk_at dksX6_cut_1 17 rfl rfl)
theorem dX6_cut_42 : decode cX6_cut 42 = .ok (.invokevirtual 75, 3) := dk_182 0 75 (dk_at dksX6_cut_1 18 rfl rfl)
theorem dX6_cut_45 : decode cX6_cut 45 = .ok (.areturn, 1) := dk_176 (dk_at dksX6_cut_1 21 rfl rfl)
abbrev cX6_number : ByteArray := prog_5_method_7_code
def yX6_number : MethodName := ⟨RX6, "number", "()I"⟩
def dkwX6_number_2 : List UInt8 := [27, 158, 0, 14, 42, 182, 0, 55, 153, 0, 7, 4, 167, 0, 4, 3, 181, 0, 23, 27, 172]
abbrev dktX6_number_2 : List UInt8 := dkwX6_number_2 ++ []
def dkwX6_number_1 : List UInt8 := [16, 10, 27, 104, 42, 182, 0, 59, 96, 60, 132, 2, 1, 167, 255, 227, 42, 42, 180, 0, 23, 154, 0, 14]
abbrev dktX6_number_1 : List UInt8 := dkwX6_number_1 ++ dktX6_number_2
def dkwX6_number_0 : List UInt8 := [42, 182, 0, 59, 60, 3, 61, 28, 5, 162, 0, 30, 27, 158, 0, 26, 42, 182, 0, 55, 153, 0, 19]
abbrev dktX6_number_0 : List UInt8 := dkwX6_number_0 ++ dktX6_number_1
theorem dksX6_number_0 : cX6_number.data.toList.drop 0 = dktX6_number_0 := by decide +kernel
theorem dksX6_number_1 : cX6_number.data.toList.drop 23 = dktX6_number_1 := dk_seg dksX6_number_0 23 rfl rfl
theorem dksX6_number_2 : cX6_number.data.toList.drop 47 = dktX6_number_2 := dk_seg dksX6_number_1 24 rfl rfl
theorem dX6_number_0 : decode cX6_number 0 = .ok (.aload_n 0, 1) := dk_42 (dk_at dksX6_number_0 0 rfl rfl)
theorem dX6_number_1 : decode cX6_number 1 = .ok (.invokevirtual 59, 3) := dk_182 0 59 (dk_at dksX6_number_0 1 rfl rfl)
theorem dX6_number_4 : decode cX6_number 4 = .ok (.istore_n 1, 1) := dk_60 (dk_at dksX6_number_0 4 rfl rfl)
theorem dX6_number_5 : decode cX6_number 5 = .ok (.iconst 0, 1) := dk_3 (dk_at dksX6_number_0 5 rfl rfl)
theorem dX6_number_6 : decode cX6_number 6 = .ok (.istore_n 2, 1) := dk_61 (dk_at dksX6_number_0 6 rfl rfl)
theorem dX6_number_7 : decode cX6_number 7 = .ok (.iload_n 2, 1) := dk_28 (dk_at dksX6_number_0 7 rfl rfl)
theorem dX6_number_8 : decode cX6_number 8 = .ok (.iconst 2, 1) := dk_5 (dk_at dksX6_number_0 8 rfl rfl)
theorem dX6_number_9 : decode cX6_number 9 = .ok (.if_icmp .ge 30, 3) := dk_162 0 30 (dk_at dksX6_number_0 9 rfl rfl)
theorem dX6_number_12 : decode cX6_number 12 = .ok (.iload_n 1, 1) := dk_27 (dk_at dksX6_number_0 12 rfl rfl)
theorem dX6_number_13 : decode cX6_number 13 = .ok (.ifCond .le 26, 3) := dk_158 0 26 (dk_at dksX6_number_0 13 rfl rfl)
theorem dX6_number_16 : decode cX6_number 16 = .ok (.aload_n 0, 1) := dk_42 (dk_at dksX6_number_0 16 rfl rfl)
theorem dX6_number_17 : decode cX6_number 17 = .ok (.invokevirtual 55, 3) := dk_182 0 55 (dk_at dksX6_number_0 17 rfl rfl)
theorem dX6_number_20 : decode cX6_number 20 = .ok (.ifCond .eq 19, 3) := dk_153 0 19 (dk_at dksX6_number_0 20 rfl rfl)
theorem dX6_number_23 : decode cX6_number 23 = .ok (.bipush 10, 2) := dk_16 10 (dk_at dksX6_number_1 0 rfl rfl)
theorem dX6_number_25 : decode cX6_number 25 = .ok (.iload_n 1, 1) := dk_27 (dk_at dksX6_number_1 2 rfl rfl)
theorem dX6_number_26 : decode cX6_number 26 = .ok (.imul, 1) := dk_104 (dk_at dksX6_number_1 3 rfl rfl)
theorem dX6_number_27 : decode cX6_number 27 = .ok (.aload_n 0, 1) := dk_42 (dk_at dksX6_number_1 4 rfl rfl)
theorem dX6_number_28 : decode cX6_number 28 = .ok (.invokevirtual 59, 3) := dk_182 0 59 (dk_at dksX6_number_1 5 rfl rfl)
theorem dX6_number_31 : decode cX6_number 31 = .ok (.iadd, 1) := dk_96 (dk_at dksX6_number_1 8 rfl rfl)
theorem dX6_number_32 : decode cX6_number 32 = .ok (.istore_n 1, 1) := dk_60 (dk_at dksX6_number_1 9 rfl rfl)
theorem dX6_number_33 : decode cX6_number 33 = .ok (.iinc 2 1, 3) := dk_132 2 1 (dk_at dksX6_number_1 10 rfl rfl)
theorem dX6_number_36 : decode cX6_number 36 = .ok (.goto (-29), 3) := dk_167 255 227 (dk_at dksX6_number_1 13 rfl rfl)
theorem dX6_number_39 : decode cX6_number 39 = .ok (.aload_n 0, 1) := dk_42 (dk_at dksX6_number_1 16 rfl rfl)
theorem dX6_number_40 : decode cX6_number 40 = .ok (.aload_n 0, 1) := dk_42 (dk_at dksX6_number_1 17 rfl rfl)
theorem dX6_number_41 : decode cX6_number 41 = .ok (.getfield 23, 3) := dk_180 0 23 (dk_at dksX6_number_1 18 rfl rfl)
theorem dX6_number_44 : decode cX6_number 44 = .ok (.ifCond .ne 14, 3) := dk_154 0 14 (dk_at dksX6_number_1 21 rfl rfl)
theorem dX6_number_47 : decode cX6_number 47 = .ok (.iload_n 1, 1) := dk_27 (dk_at dksX6_number_2 0 rfl rfl)
theorem dX6_number_48 : decode cX6_number 48 = .ok (.ifCond .le 14, 3) := dk_158 0 14 (dk_at dksX6_number_2 1 rfl rfl)
theorem dX6_number_51 : decode cX6_number 51 = .ok (.aload_n 0, 1) := dk_42 (dk_at dksX6_number_2 4 rfl rfl)
theorem dX6_number_52 : decode cX6_number 52 = .ok (.invokevirtual 55, 3) := dk_182 0 55 (dk_at dksX6_number_2 5 rfl rfl)
theorem dX6_number_55 : decode cX6_number 55 = .ok (.ifCond .eq 7, 3) := dk_153 0 7 (dk_at dksX6_number_2 8 rfl rfl)
theorem dX6_number_58 : decode cX6_number 58 = .ok (.iconst 1, 1) := dk_4 (dk_at dksX6_number_2 11 rfl rfl)
theorem dX6_number_59 : decode cX6_number 59 = .ok (.goto 4, 3) := dk_167 0 4 (dk_at dksX6_number_2 12 rfl rfl)
theorem dX6_number_62 : decode cX6_number 62 = .ok (.iconst 0, 1) := dk_3 (dk_at dksX6_number_2 15 rfl rfl)
theorem dX6_number_63 : decode cX6_number 63 = .ok (.putfield 23, 3) := dk_181 0 23 (dk_at dksX6_number_2 16 rfl rfl)
theorem dX6_number_66 : decode cX6_number 66 = .ok (.iload_n 1, 1) := dk_27 (dk_at dksX6_number_2 19 rfl rfl)
theorem dX6_number_67 : decode cX6_number 67 = .ok (.ireturn, 1) := dk_172 (dk_at dksX6_number_2 20 rfl rfl)
abbrev cX6_digit : ByteArray := prog_5_method_6_code
def yX6_digit : MethodName := ⟨RX6, "digit", "()I"⟩
def dkwX6_digit_2 : List UInt8 := [182, 0, 47, 16, 48, 100, 172]
abbrev dktX6_digit_2 : List UInt8 := dkwX6_digit_2 ++ []
def dkwX6_digit_1 : List UInt8 := [172, 42, 89, 180, 0, 27, 4, 96, 181, 0, 27, 42, 180, 0, 1, 180, 0, 31, 42, 180, 0, 27, 4, 100]
abbrev dktX6_digit_1 : List UInt8 := dkwX6_digit_1 ++ dktX6_digit_2
def dkwX6_digit_0 : List UInt8 := [42, 42, 182, 0, 55, 154, 0, 7, 4, 167, 0, 4, 3, 181, 0, 23, 42, 180, 0, 23, 153, 0, 5, 3]
abbrev dktX6_digit_0 : List UInt8 := dkwX6_digit_0 ++ dktX6_digit_1
theorem dksX6_digit_0 : cX6_digit.data.toList.drop 0 = dktX6_digit_0 := by decide +kernel
theorem dksX6_digit_1 : cX6_digit.data.toList.drop 24 = dktX6_digit_1 := dk_seg dksX6_digit_0 24 rfl rfl
theorem dksX6_digit_2 : cX6_digit.data.toList.drop 48 = dktX6_digit_2 := dk_seg dksX6_digit_1 24 rfl rfl
theorem dX6_digit_0 : decode cX6_digit 0 = .ok (.aload_n 0, 1) := dk_42 (dk_at dksX6_digit_0 0 rfl rfl)
theorem dX6_digit_1 : decode cX6_digit 1 = .ok (.aload_n 0, 1) := dk_42 (dk_at dksX6_digit_0 1 rfl rfl)
theorem dX6_digit_2 : decode cX6_digit 2 = .ok (.invokevirtual 55, 3) := dk_182 0 55 (dk_at dksX6_digit_0 2 rfl rfl)
theorem dX6_digit_5 : decode cX6_digit 5 = .ok (.ifCond .ne 7, 3) := dk_154 0 7 (dk_at dksX6_digit_0 5 rfl rfl)
theorem dX6_digit_8 : decode cX6_digit 8 = .ok (.iconst 1, 1) := dk_4 (dk_at dksX6_digit_0 8 rfl rfl)
theorem dX6_digit_9 : decode cX6_digit 9 = .ok (.goto 4, 3) := dk_167 0 4 (dk_at dksX6_digit_0 9 rfl rfl)
theorem dX6_digit_12 : decode cX6_digit 12 = .ok (.iconst 0, 1) := dk_3 (dk_at dksX6_digit_0 12 rfl rfl)
theorem dX6_digit_13 : decode cX6_digit 13 = .ok (.putfield 23, 3) := dk_181 0 23 (dk_at dksX6_digit_0 13 rfl rfl)
theorem dX6_digit_16 : decode cX6_digit 16 = .ok (.aload_n 0, 1) := dk_42 (dk_at dksX6_digit_0 16 rfl rfl)
theorem dX6_digit_17 : decode cX6_digit 17 = .ok (.getfield 23, 3) := dk_180 0 23 (dk_at dksX6_digit_0 17 rfl rfl)
theorem dX6_digit_20 : decode cX6_digit 20 = .ok (.ifCond .eq 5, 3) := dk_153 0 5 (dk_at dksX6_digit_0 20 rfl rfl)
theorem dX6_digit_23 : decode cX6_digit 23 = .ok (.iconst 0, 1) := dk_3 (dk_at dksX6_digit_0 23 rfl rfl)
theorem dX6_digit_24 : decode cX6_digit 24 = .ok (.ireturn, 1) := dk_172 (dk_at dksX6_digit_1 0 rfl rfl)
theorem dX6_digit_25 : decode cX6_digit 25 = .ok (.aload_n 0, 1) := dk_42 (dk_at dksX6_digit_1 1 rfl rfl)
theorem dX6_digit_26 : decode cX6_digit 26 = .ok (.dup, 1) := dk_89 (dk_at dksX6_digit_1 2 rfl rfl)
theorem dX6_digit_27 : decode cX6_digit 27 = .ok (.getfield 27, 3) := dk_180 0 27 (dk_at dksX6_digit_1 3 rfl rfl)
theorem dX6_digit_30 : decode cX6_digit 30 = .ok (.iconst 1, 1) := dk_4 (dk_at dksX6_digit_1 6 rfl rfl)
theorem dX6_digit_31 : decode cX6_digit 31 = .ok (.iadd, 1) := dk_96 (dk_at dksX6_digit_1 7 rfl rfl)
theorem dX6_digit_32 : decode cX6_digit 32 = .ok (.putfield 27, 3) := dk_181 0 27 (dk_at dksX6_digit_1 8 rfl rfl)
theorem dX6_digit_35 : decode cX6_digit 35 = .ok (.aload_n 0, 1) := dk_42 (dk_at dksX6_digit_1 11 rfl rfl)
theorem dX6_digit_36 : decode cX6_digit 36 = .ok (.getfield 1, 3) := dk_180 0 1 (dk_at dksX6_digit_1 12 rfl rfl)
theorem dX6_digit_39 : decode cX6_digit 39 = .ok (.getfield 31, 3) := dk_180 0 31 (dk_at dksX6_digit_1 15 rfl rfl)
theorem dX6_digit_42 : decode cX6_digit 42 = .ok (.aload_n 0, 1) := dk_42 (dk_at dksX6_digit_1 18 rfl rfl)
theorem dX6_digit_43 : decode cX6_digit 43 = .ok (.getfield 27, 3) := dk_180 0 27 (dk_at dksX6_digit_1 19 rfl rfl)
theorem dX6_digit_46 : decode cX6_digit 46 = .ok (.iconst 1, 1) := dk_4 (dk_at dksX6_digit_1 22 rfl rfl)
theorem dX6_digit_47 : decode cX6_digit 47 = .ok (.isub, 1) := dk_100 (dk_at dksX6_digit_1 23 rfl rfl)
theorem dX6_digit_48 : decode cX6_digit 48 = .ok (.invokevirtual 47, 3) := dk_182 0 47 (dk_at dksX6_digit_2 0 rfl rfl)
theorem dX6_digit_51 : decode cX6_digit 51 = .ok (.bipush 48, 2) := dk_16 48 (dk_at dksX6_digit_2 3 rfl rfl)
theorem dX6_digit_53 : decode cX6_digit 53 = .ok (.isub, 1) := dk_100 (dk_at dksX6_digit_2 5 rfl rfl)
theorem dX6_digit_54 : decode cX6_digit 54 = .ok (.ireturn, 1) := dk_172 (dk_at dksX6_digit_2 6 rfl rfl)
abbrev cX6_seesDigit : ByteArray := prog_5_method_5_code
def yX6_seesDigit : MethodName := ⟨RX6, "seesDigit", "()Z"⟩
def dkwX6_seesDigit_1 : List UInt8 := [163, 0, 7, 4, 167, 0, 4, 3, 172]
abbrev dktX6_seesDigit_1 : List UInt8 := dkwX6_seesDigit_1 ++ []
def dkwX6_seesDigit_0 : List UInt8 := [42, 180, 0, 23, 154, 0, 25, 42, 182, 0, 51, 16, 48, 161, 0, 16, 42, 182, 0, 51, 16, 57]
abbrev dktX6_seesDigit_0 : List UInt8 := dkwX6_seesDigit_0 ++ dktX6_seesDigit_1
theorem dksX6_seesDigit_0 : cX6_seesDigit.data.toList.drop 0 = dktX6_seesDigit_0 := by decide +kernel
theorem dksX6_seesDigit_1 : cX6_seesDigit.data.toList.drop 22 = dktX6_seesDigit_1 := dk_seg dksX6_seesDigit_0 22 rfl rfl
theorem dX6_seesDigit_0 : decode cX6_seesDigit 0 = .ok (.aload_n 0, 1) := dk_42 (dk_at dksX6_seesDigit_0 0 rfl rfl)
theorem dX6_seesDigit_1 : decode cX6_seesDigit 1 = .ok (.getfield 23, 3) := dk_180 0 23 (dk_at dksX6_seesDigit_0 1 rfl rfl)
theorem dX6_seesDigit_4 : decode cX6_seesDigit 4 = .ok (.ifCond .ne 25, 3) := dk_154 0 25 (dk_at dksX6_seesDigit_0 4 rfl rfl)
theorem dX6_seesDigit_7 : decode cX6_seesDigit 7 = .ok (.aload_n 0, 1) := dk_42 (dk_at dksX6_seesDigit_0 7 rfl rfl)
theorem dX6_seesDigit_8 : decode cX6_seesDigit 8 = .ok (.invokevirtual 51, 3) := dk_182 0 51 (dk_at dksX6_seesDigit_0 8 rfl rfl)
theorem dX6_seesDigit_11 : decode cX6_seesDigit 11 = .ok (.bipush 48, 2) := dk_16 48 (dk_at dksX6_seesDigit_0 11 rfl rfl)
theorem dX6_seesDigit_13 : decode cX6_seesDigit 13 = .ok (.if_icmp .lt 16, 3) := dk_161 0 16 (dk_at dksX6_seesDigit_0 13 rfl rfl)
theorem dX6_seesDigit_16 : decode cX6_seesDigit 16 = .ok (.aload_n 0, 1) := dk_42 (dk_at dksX6_seesDigit_0 16 rfl rfl)
theorem dX6_seesDigit_17 : decode cX6_seesDigit 17 = .ok (.invokevirtual 51, 3) := dk_182 0 51 (dk_at dksX6_seesDigit_0 17 rfl rfl)
theorem dX6_seesDigit_20 : decode cX6_seesDigit 20 = .ok (.bipush 57, 2) := dk_16 57 (dk_at dksX6_seesDigit_0 20 rfl rfl)
theorem dX6_seesDigit_22 : decode cX6_seesDigit 22 = .ok (.if_icmp .gt 7, 3) := dk_163 0 7 (dk_at dksX6_seesDigit_1 0 rfl rfl)
theorem dX6_seesDigit_25 : decode cX6_seesDigit 25 = .ok (.iconst 1, 1) := dk_4 (dk_at dksX6_seesDigit_1 3 rfl rfl)
theorem dX6_seesDigit_26 : decode cX6_seesDigit 26 = .ok (.goto 4, 3) := dk_167 0 4 (dk_at dksX6_seesDigit_1 4 rfl rfl)
theorem dX6_seesDigit_29 : decode cX6_seesDigit 29 = .ok (.iconst 0, 1) := dk_3 (dk_at dksX6_seesDigit_1 7 rfl rfl)
theorem dX6_seesDigit_30 : decode cX6_seesDigit 30 = .ok (.ireturn, 1) := dk_172 (dk_at dksX6_seesDigit_1 8 rfl rfl)
abbrev cX6_sign : ByteArray := prog_5_method_3_code
def yX6_sign : MethodName := ⟨RX6, "sign", "(C)V"⟩
def dkwX6_sign_1 : List UInt8 := [42, 89, 180, 0, 27, 42, 180, 0, 23, 153, 0, 7, 3, 167, 0, 4, 4, 96, 181, 0, 27, 177]
abbrev dktX6_sign_1 : List UInt8 := dkwX6_sign_1 ++ []
def dkwX6_sign_0 : List UInt8 := [42, 42, 180, 0, 23, 154, 0, 11, 42, 182, 0, 51, 27, 159, 0, 7, 4, 167, 0, 4, 3, 181, 0, 23]
abbrev dktX6_sign_0 : List UInt8 := dkwX6_sign_0 ++ dktX6_sign_1
theorem dksX6_sign_0 : cX6_sign.data.toList.drop 0 = dktX6_sign_0 := by decide +kernel
theorem dksX6_sign_1 : cX6_sign.data.toList.drop 24 = dktX6_sign_1 := dk_seg dksX6_sign_0 24 rfl rfl
theorem dX6_sign_0 : decode cX6_sign 0 = .ok (.aload_n 0, 1) := dk_42 (dk_at dksX6_sign_0 0 rfl rfl)
theorem dX6_sign_1 : decode cX6_sign 1 = .ok (.aload_n 0, 1) := dk_42 (dk_at dksX6_sign_0 1 rfl rfl)
theorem dX6_sign_2 : decode cX6_sign 2 = .ok (.getfield 23, 3) := dk_180 0 23 (dk_at dksX6_sign_0 2 rfl rfl)
theorem dX6_sign_5 : decode cX6_sign 5 = .ok (.ifCond .ne 11, 3) := dk_154 0 11 (dk_at dksX6_sign_0 5 rfl rfl)
theorem dX6_sign_8 : decode cX6_sign 8 = .ok (.aload_n 0, 1) := dk_42 (dk_at dksX6_sign_0 8 rfl rfl)
theorem dX6_sign_9 : decode cX6_sign 9 = .ok (.invokevirtual 51, 3) := dk_182 0 51 (dk_at dksX6_sign_0 9 rfl rfl)
theorem dX6_sign_12 : decode cX6_sign 12 = .ok (.iload_n 1, 1) := dk_27 (dk_at dksX6_sign_0 12 rfl rfl)
theorem dX6_sign_13 : decode cX6_sign 13 = .ok (.if_icmp .eq 7, 3) := dk_159 0 7 (dk_at dksX6_sign_0 13 rfl rfl)
theorem dX6_sign_16 : decode cX6_sign 16 = .ok (.iconst 1, 1) := dk_4 (dk_at dksX6_sign_0 16 rfl rfl)
theorem dX6_sign_17 : decode cX6_sign 17 = .ok (.goto 4, 3) := dk_167 0 4 (dk_at dksX6_sign_0 17 rfl rfl)
theorem dX6_sign_20 : decode cX6_sign 20 = .ok (.iconst 0, 1) := dk_3 (dk_at dksX6_sign_0 20 rfl rfl)
theorem dX6_sign_21 : decode cX6_sign 21 = .ok (.putfield 23, 3) := dk_181 0 23 (dk_at dksX6_sign_0 21 rfl rfl)
theorem dX6_sign_24 : decode cX6_sign 24 = .ok (.aload_n 0, 1) := dk_42 (dk_at dksX6_sign_1 0 rfl rfl)
theorem dX6_sign_25 : decode cX6_sign 25 = .ok (.dup, 1) := dk_89 (dk_at dksX6_sign_1 1 rfl rfl)
theorem dX6_sign_26 : decode cX6_sign 26 = .ok (.getfield 27, 3) := dk_180 0 27 (dk_at dksX6_sign_1 2 rfl rfl)
theorem dX6_sign_29 : decode cX6_sign 29 = .ok (.aload_n 0, 1) := dk_42 (dk_at dksX6_sign_1 5 rfl rfl)
theorem dX6_sign_30 : decode cX6_sign 30 = .ok (.getfield 23, 3) := dk_180 0 23 (dk_at dksX6_sign_1 6 rfl rfl)
theorem dX6_sign_33 : decode cX6_sign 33 = .ok (.ifCond .eq 7, 3) := dk_153 0 7 (dk_at dksX6_sign_1 9 rfl rfl)
theorem dX6_sign_36 : decode cX6_sign 36 = .ok (.iconst 0, 1) := dk_3 (dk_at dksX6_sign_1 12 rfl rfl)
theorem dX6_sign_37 : decode cX6_sign 37 = .ok (.goto 4, 3) := dk_167 0 4 (dk_at dksX6_sign_1 13 rfl rfl)
theorem dX6_sign_40 : decode cX6_sign 40 = .ok (.iconst 1, 1) := dk_4 (dk_at dksX6_sign_1 16 rfl rfl)
theorem dX6_sign_41 : decode cX6_sign 41 = .ok (.iadd, 1) := dk_96 (dk_at dksX6_sign_1 17 rfl rfl)
theorem dX6_sign_42 : decode cX6_sign 42 = .ok (.putfield 27, 3) := dk_181 0 27 (dk_at dksX6_sign_1 18 rfl rfl)
theorem dX6_sign_45 : decode cX6_sign 45 = .ok (.return_, 1) := dk_177 (dk_at dksX6_sign_1 21 rfl rfl)
abbrev cX6_behind : ByteArray := prog_5_method_8_code
def yX6_behind : MethodName := ⟨RX6, "behind", "(C)I"⟩
def dkwX6_behind_0 : List UInt8 := [42, 27, 182, 0, 43, 42, 182, 0, 62, 172]
abbrev dktX6_behind_0 : List UInt8 := dkwX6_behind_0 ++ []
theorem dksX6_behind_0 : cX6_behind.data.toList.drop 0 = dktX6_behind_0 := by decide +kernel
theorem dX6_behind_0 : decode cX6_behind 0 = .ok (.aload_n 0, 1) := dk_42 (dk_at dksX6_behind_0 0 rfl rfl)
theorem dX6_behind_1 : decode cX6_behind 1 = .ok (.iload_n 1, 1) := dk_27 (dk_at dksX6_behind_0 1 rfl rfl)
theorem dX6_behind_2 : decode cX6_behind 2 = .ok (.invokevirtual 43, 3) := dk_182 0 43 (dk_at dksX6_behind_0 2 rfl rfl)
theorem dX6_behind_5 : decode cX6_behind 5 = .ok (.aload_n 0, 1) := dk_42 (dk_at dksX6_behind_0 5 rfl rfl)
theorem dX6_behind_6 : decode cX6_behind 6 = .ok (.invokevirtual 62, 3) := dk_182 0 62 (dk_at dksX6_behind_0 6 rfl rfl)
theorem dX6_behind_9 : decode cX6_behind 9 = .ok (.ireturn, 1) := dk_172 (dk_at dksX6_behind_0 9 rfl rfl)
abbrev cX6_row : ByteArray := prog_5_method_9_code
def yX6_row : MethodName := ⟨RX6, "row", "([I)[I"⟩
def dkwX6_row_0 : List UInt8 := [8, 188, 10, 77, 43, 3, 44, 3, 43, 190, 184, 0, 65, 44, 176]
abbrev dktX6_row_0 : List UInt8 := dkwX6_row_0 ++ []
theorem dksX6_row_0 : cX6_row.data.toList.drop 0 = dktX6_row_0 := by decide +kernel
theorem dX6_row_0 : decode cX6_row 0 = .ok (.iconst 5, 1) := dk_8 (dk_at dksX6_row_0 0 rfl rfl)
theorem dX6_row_1 : decode cX6_row 1 = .ok (.newarray .int, 2) := dk_188_10 (dk_at dksX6_row_0 1 rfl rfl)
theorem dX6_row_3 : decode cX6_row 3 = .ok (.astore_n 2, 1) := dk_77 (dk_at dksX6_row_0 3 rfl rfl)
theorem dX6_row_4 : decode cX6_row 4 = .ok (.aload_n 1, 1) := dk_43 (dk_at dksX6_row_0 4 rfl rfl)
theorem dX6_row_5 : decode cX6_row 5 = .ok (.iconst 0, 1) := dk_3 (dk_at dksX6_row_0 5 rfl rfl)
theorem dX6_row_6 : decode cX6_row 6 = .ok (.aload_n 2, 1) := dk_44 (dk_at dksX6_row_0 6 rfl rfl)
theorem dX6_row_7 : decode cX6_row 7 = .ok (.iconst 0, 1) := dk_3 (dk_at dksX6_row_0 7 rfl rfl)
theorem dX6_row_8 : decode cX6_row 8 = .ok (.aload_n 1, 1) := dk_43 (dk_at dksX6_row_0 8 rfl rfl)
theorem dX6_row_9 : decode cX6_row 9 = .ok (.arraylength, 1) := dk_190 (dk_at dksX6_row_0 9 rfl rfl)
theorem dX6_row_10 : decode cX6_row 10 = .ok (.invokestatic 65, 3) := dk_184 0 65 (dk_at dksX6_row_0 10 rfl rfl)
theorem dX6_row_13 : decode cX6_row 13 = .ok (.aload_n 2, 1) := dk_44 (dk_at dksX6_row_0 13 rfl rfl)
theorem dX6_row_14 : decode cX6_row 14 = .ok (.areturn, 1) := dk_176 (dk_at dksX6_row_0 14 rfl rfl)
abbrev cX6_load : ByteArray := prog_5_method_12_code
def yX6_load : MethodName := ⟨RX6, "load", "()[I"⟩
def dkwX6_load_1 : List UInt8 := [79, 89, 4, 27, 79, 89, 5, 28, 79, 89, 6, 42, 182, 0, 59, 79, 182, 0, 75, 176]
abbrev dktX6_load_1 : List UInt8 := dkwX6_load_1 ++ []
def dkwX6_load_0 : List UInt8 := [42, 182, 0, 62, 60, 42, 16, 46, 182, 0, 43, 42, 182, 0, 59, 61, 42, 7, 188, 10, 89, 3, 16, 108]
abbrev dktX6_load_0 : List UInt8 := dkwX6_load_0 ++ dktX6_load_1
theorem dksX6_load_0 : cX6_load.data.toList.drop 0 = dktX6_load_0 := by decide +kernel
theorem dksX6_load_1 : cX6_load.data.toList.drop 24 = dktX6_load_1 := dk_seg dksX6_load_0 24 rfl rfl
theorem dX6_load_0 : decode cX6_load 0 = .ok (.aload_n 0, 1) := dk_42 (dk_at dksX6_load_0 0 rfl rfl)
theorem dX6_load_1 : decode cX6_load 1 = .ok (.invokevirtual 62, 3) := dk_182 0 62 (dk_at dksX6_load_0 1 rfl rfl)
theorem dX6_load_4 : decode cX6_load 4 = .ok (.istore_n 1, 1) := dk_60 (dk_at dksX6_load_0 4 rfl rfl)
theorem dX6_load_5 : decode cX6_load 5 = .ok (.aload_n 0, 1) := dk_42 (dk_at dksX6_load_0 5 rfl rfl)
theorem dX6_load_6 : decode cX6_load 6 = .ok (.bipush 46, 2) := dk_16 46 (dk_at dksX6_load_0 6 rfl rfl)
theorem dX6_load_8 : decode cX6_load 8 = .ok (.invokevirtual 43, 3) := dk_182 0 43 (dk_at dksX6_load_0 8 rfl rfl)
theorem dX6_load_11 : decode cX6_load 11 = .ok (.aload_n 0, 1) := dk_42 (dk_at dksX6_load_0 11 rfl rfl)
theorem dX6_load_12 : decode cX6_load 12 = .ok (.invokevirtual 59, 3) := dk_182 0 59 (dk_at dksX6_load_0 12 rfl rfl)
theorem dX6_load_15 : decode cX6_load 15 = .ok (.istore_n 2, 1) := dk_61 (dk_at dksX6_load_0 15 rfl rfl)
theorem dX6_load_16 : decode cX6_load 16 = .ok (.aload_n 0, 1) := dk_42 (dk_at dksX6_load_0 16 rfl rfl)
theorem dX6_load_17 : decode cX6_load 17 = .ok (.iconst 4, 1) := dk_7 (dk_at dksX6_load_0 17 rfl rfl)
theorem dX6_load_18 : decode cX6_load 18 = .ok (.newarray .int, 2) := dk_188_10 (dk_at dksX6_load_0 18 rfl rfl)
theorem dX6_load_20 : decode cX6_load 20 = .ok (.dup, 1) := dk_89 (dk_at dksX6_load_0 20 rfl rfl)
theorem dX6_load_21 : decode cX6_load 21 = .ok (.iconst 0, 1) := dk_3 (dk_at dksX6_load_0 21 rfl rfl)
theorem dX6_load_22 : decode cX6_load 22 = .ok (.bipush 108, 2) := dk_16 108 (dk_at dksX6_load_0 22 rfl rfl)
theorem dX6_load_24 : decode cX6_load 24 = .ok (.iastore, 1) := dk_79 (dk_at dksX6_load_1 0 rfl rfl)
theorem dX6_load_25 : decode cX6_load 25 = .ok (.dup, 1) := dk_89 (dk_at dksX6_load_1 1 rfl rfl)
theorem dX6_load_26 : decode cX6_load 26 = .ok (.iconst 1, 1) := dk_4 (dk_at dksX6_load_1 2 rfl rfl)
theorem dX6_load_27 : decode cX6_load 27 = .ok (.iload_n 1, 1) := dk_27 (dk_at dksX6_load_1 3 rfl rfl)
theorem dX6_load_28 : decode cX6_load 28 = .ok (.iastore, 1) := dk_79 (dk_at dksX6_load_1 4 rfl rfl)
theorem dX6_load_29 : decode cX6_load 29 = .ok (.dup, 1) := dk_89 (dk_at dksX6_load_1 5 rfl rfl)
theorem dX6_load_30 : decode cX6_load 30 = .ok (.iconst 2, 1) := dk_5 (dk_at dksX6_load_1 6 rfl rfl)
theorem dX6_load_31 : decode cX6_load 31 = .ok (.iload_n 2, 1) := dk_28 (dk_at dksX6_load_1 7 rfl rfl)
theorem dX6_load_32 : decode cX6_load 32 = .ok (.iastore, 1) := dk_79 (dk_at dksX6_load_1 8 rfl rfl)
theorem dX6_load_33 : decode cX6_load 33 = .ok (.dup, 1) := dk_89 (dk_at dksX6_load_1 9 rfl rfl)
theorem dX6_load_34 : decode cX6_load 34 = .ok (.iconst 3, 1) := dk_6 (dk_at dksX6_load_1 10 rfl rfl)
theorem dX6_load_35 : decode cX6_load 35 = .ok (.aload_n 0, 1) := dk_42 (dk_at dksX6_load_1 11 rfl rfl)
theorem dX6_load_36 : decode cX6_load 36 = .ok (.invokevirtual 59, 3) := dk_182 0 59 (dk_at dksX6_load_1 12 rfl rfl)
theorem dX6_load_39 : decode cX6_load 39 = .ok (.iastore, 1) := dk_79 (dk_at dksX6_load_1 15 rfl rfl)
theorem dX6_load_40 : decode cX6_load 40 = .ok (.invokevirtual 75, 3) := dk_182 0 75 (dk_at dksX6_load_1 16 rfl rfl)
theorem dX6_load_43 : decode cX6_load 43 = .ok (.areturn, 1) := dk_176 (dk_at dksX6_load_1 19 rfl rfl)
abbrev cX6_takes : ByteArray := prog_5_method_4_code
def yX6_takes : MethodName := ⟨RX6, "takes", "(C)Z"⟩
def dkwX6_takes_1 : List UInt8 := [180, 0, 27, 28, 153, 0, 7, 4, 167, 0, 4, 3, 96, 181, 0, 27, 28, 172]
abbrev dktX6_takes_1 : List UInt8 := dkwX6_takes_1 ++ []
def dkwX6_takes_0 : List UInt8 := [42, 180, 0, 23, 154, 0, 15, 42, 182, 0, 51, 27, 160, 0, 7, 4, 167, 0, 4, 3, 61, 42, 89]
abbrev dktX6_takes_0 : List UInt8 := dkwX6_takes_0 ++ dktX6_takes_1
theorem dksX6_takes_0 : cX6_takes.data.toList.drop 0 = dktX6_takes_0 := by decide +kernel
theorem dksX6_takes_1 : cX6_takes.data.toList.drop 23 = dktX6_takes_1 := dk_seg dksX6_takes_0 23 rfl rfl
theorem dX6_takes_0 : decode cX6_takes 0 = .ok (.aload_n 0, 1) := dk_42 (dk_at dksX6_takes_0 0 rfl rfl)
theorem dX6_takes_1 : decode cX6_takes 1 = .ok (.getfield 23, 3) := dk_180 0 23 (dk_at dksX6_takes_0 1 rfl rfl)
theorem dX6_takes_4 : decode cX6_takes 4 = .ok (.ifCond .ne 15, 3) := dk_154 0 15 (dk_at dksX6_takes_0 4 rfl rfl)
theorem dX6_takes_7 : decode cX6_takes 7 = .ok (.aload_n 0, 1) := dk_42 (dk_at dksX6_takes_0 7 rfl rfl)
theorem dX6_takes_8 : decode cX6_takes 8 = .ok (.invokevirtual 51, 3) := dk_182 0 51 (dk_at dksX6_takes_0 8 rfl rfl)
theorem dX6_takes_11 : decode cX6_takes 11 = .ok (.iload_n 1, 1) := dk_27 (dk_at dksX6_takes_0 11 rfl rfl)
theorem dX6_takes_12 : decode cX6_takes 12 = .ok (.if_icmp .ne 7, 3) := dk_160 0 7 (dk_at dksX6_takes_0 12 rfl rfl)
theorem dX6_takes_15 : decode cX6_takes 15 = .ok (.iconst 1, 1) := dk_4 (dk_at dksX6_takes_0 15 rfl rfl)
theorem dX6_takes_16 : decode cX6_takes 16 = .ok (.goto 4, 3) := dk_167 0 4 (dk_at dksX6_takes_0 16 rfl rfl)
theorem dX6_takes_19 : decode cX6_takes 19 = .ok (.iconst 0, 1) := dk_3 (dk_at dksX6_takes_0 19 rfl rfl)
theorem dX6_takes_20 : decode cX6_takes 20 = .ok (.istore_n 2, 1) := dk_61 (dk_at dksX6_takes_0 20 rfl rfl)
theorem dX6_takes_21 : decode cX6_takes 21 = .ok (.aload_n 0, 1) := dk_42 (dk_at dksX6_takes_0 21 rfl rfl)
theorem dX6_takes_22 : decode cX6_takes 22 = .ok (.dup, 1) := dk_89 (dk_at dksX6_takes_0 22 rfl rfl)
theorem dX6_takes_23 : decode cX6_takes 23 = .ok (.getfield 27, 3) := dk_180 0 27 (dk_at dksX6_takes_1 0 rfl rfl)
theorem dX6_takes_26 : decode cX6_takes 26 = .ok (.iload_n 2, 1) := dk_28 (dk_at dksX6_takes_1 3 rfl rfl)
theorem dX6_takes_27 : decode cX6_takes 27 = .ok (.ifCond .eq 7, 3) := dk_153 0 7 (dk_at dksX6_takes_1 4 rfl rfl)
theorem dX6_takes_30 : decode cX6_takes 30 = .ok (.iconst 1, 1) := dk_4 (dk_at dksX6_takes_1 7 rfl rfl)
theorem dX6_takes_31 : decode cX6_takes 31 = .ok (.goto 4, 3) := dk_167 0 4 (dk_at dksX6_takes_1 8 rfl rfl)
theorem dX6_takes_34 : decode cX6_takes 34 = .ok (.iconst 0, 1) := dk_3 (dk_at dksX6_takes_1 11 rfl rfl)
theorem dX6_takes_35 : decode cX6_takes 35 = .ok (.iadd, 1) := dk_96 (dk_at dksX6_takes_1 12 rfl rfl)
theorem dX6_takes_36 : decode cX6_takes 36 = .ok (.putfield 27, 3) := dk_181 0 27 (dk_at dksX6_takes_1 13 rfl rfl)
theorem dX6_takes_39 : decode cX6_takes 39 = .ok (.iload_n 2, 1) := dk_28 (dk_at dksX6_takes_1 16 rfl rfl)
theorem dX6_takes_40 : decode cX6_takes 40 = .ok (.ireturn, 1) := dk_172 (dk_at dksX6_takes_1 17 rfl rfl)
abbrev cX6_sizes : ByteArray := prog_5_method_10_code
def yX6_sizes : MethodName := ⟨RX6, "sizes", "(C)[I"⟩
def dkwX6_sizes_2 : List UInt8 := [160, 0, 12, 42, 16, 42, 182, 0, 71, 167, 0, 4, 3, 79, 182, 0, 75, 176]
abbrev dktX6_sizes_2 : List UInt8 := dkwX6_sizes_2 ++ []
def dkwX6_sizes_1 : List UInt8 := [89, 3, 27, 79, 89, 4, 28, 79, 89, 5, 29, 79, 89, 6, 21, 4, 79, 89, 7, 27, 16, 113]
abbrev dktX6_sizes_1 : List UInt8 := dkwX6_sizes_1 ++ dktX6_sizes_2
def dkwX6_sizes_0 : List UInt8 := [42, 182, 0, 62, 61, 42, 16, 120, 182, 0, 71, 62, 42, 16, 120, 182, 0, 71, 54, 4, 42, 8, 188, 10]
abbrev dktX6_sizes_0 : List UInt8 := dkwX6_sizes_0 ++ dktX6_sizes_1
theorem dksX6_sizes_0 : cX6_sizes.data.toList.drop 0 = dktX6_sizes_0 := by decide +kernel
theorem dksX6_sizes_1 : cX6_sizes.data.toList.drop 24 = dktX6_sizes_1 := dk_seg dksX6_sizes_0 24 rfl rfl
theorem dksX6_sizes_2 : cX6_sizes.data.toList.drop 46 = dktX6_sizes_2 := dk_seg dksX6_sizes_1 22 rfl rfl
theorem dX6_sizes_0 : decode cX6_sizes 0 = .ok (.aload_n 0, 1) := dk_42 (dk_at dksX6_sizes_0 0 rfl rfl)
theorem dX6_sizes_1 : decode cX6_sizes 1 = .ok (.invokevirtual 62, 3) := dk_182 0 62 (dk_at dksX6_sizes_0 1 rfl rfl)
theorem dX6_sizes_4 : decode cX6_sizes 4 = .ok (.istore_n 2, 1) := dk_61 (dk_at dksX6_sizes_0 4 rfl rfl)
theorem dX6_sizes_5 : decode cX6_sizes 5 = .ok (.aload_n 0, 1) := dk_42 (dk_at dksX6_sizes_0 5 rfl rfl)
theorem dX6_sizes_6 : decode cX6_sizes 6 = .ok (.bipush 120, 2) := dk_16 120 (dk_at dksX6_sizes_0 6 rfl rfl)
theorem dX6_sizes_8 : decode cX6_sizes 8 = .ok (.invokevirtual 71, 3) := dk_182 0 71 (dk_at dksX6_sizes_0 8 rfl rfl)
theorem dX6_sizes_11 : decode cX6_sizes 11 = .ok (.istore_n 3, 1) := dk_62 (dk_at dksX6_sizes_0 11 rfl rfl)
theorem dX6_sizes_12 : decode cX6_sizes 12 = .ok (.aload_n 0, 1) := dk_42 (dk_at dksX6_sizes_0 12 rfl rfl)
theorem dX6_sizes_13 : decode cX6_sizes 13 = .ok (.bipush 120, 2) := dk_16 120 (dk_at dksX6_sizes_0 13 rfl rfl)
theorem dX6_sizes_15 : decode cX6_sizes 15 = .ok (.invokevirtual 71, 3) := dk_182 0 71 (dk_at dksX6_sizes_0 15 rfl rfl)
theorem dX6_sizes_18 : decode cX6_sizes 18 = .ok (.istore 4, 2) := dk_54 4 (dk_at dksX6_sizes_0 18 rfl rfl)
theorem dX6_sizes_20 : decode cX6_sizes 20 = .ok (.aload_n 0, 1) := dk_42 (dk_at dksX6_sizes_0 20 rfl rfl)
theorem dX6_sizes_21 : decode cX6_sizes 21 = .ok (.iconst 5, 1) := dk_8 (dk_at dksX6_sizes_0 21 rfl rfl)
theorem dX6_sizes_22 : decode cX6_sizes 22 = .ok (.newarray .int, 2) := dk_188_10 (dk_at dksX6_sizes_0 22 rfl rfl)
theorem dX6_sizes_24 : decode cX6_sizes 24 = .ok (.dup, 1) := dk_89 (dk_at dksX6_sizes_1 0 rfl rfl)
theorem dX6_sizes_25 : decode cX6_sizes 25 = .ok (.iconst 0, 1) := dk_3 (dk_at dksX6_sizes_1 1 rfl rfl)
theorem dX6_sizes_26 : decode cX6_sizes 26 = .ok (.iload_n 1, 1) := dk_27 (dk_at dksX6_sizes_1 2 rfl rfl)
theorem dX6_sizes_27 : decode cX6_sizes 27 = .ok (.iastore, 1) := dk_79 (dk_at dksX6_sizes_1 3 rfl rfl)
theorem dX6_sizes_28 : decode cX6_sizes 28 = .ok (.dup, 1) := dk_89 (dk_at dksX6_sizes_1 4 rfl rfl)
theorem dX6_sizes_29 : decode cX6_sizes 29 = .ok (.iconst 1, 1) := dk_4 (dk_at dksX6_sizes_1 5 rfl rfl)
theorem dX6_sizes_30 : decode cX6_sizes 30 = .ok (.iload_n 2, 1) := dk_28 (dk_at dksX6_sizes_1 6 rfl rfl)
theorem dX6_sizes_31 : decode cX6_sizes 31 = .ok (.iastore, 1) := dk_79 (dk_at dksX6_sizes_1 7 rfl rfl)
theorem dX6_sizes_32 : decode cX6_sizes 32 = .ok (.dup, 1) := dk_89 (dk_at dksX6_sizes_1 8 rfl rfl)
theorem dX6_sizes_33 : decode cX6_sizes 33 = .ok (.iconst 2, 1) := dk_5 (dk_at dksX6_sizes_1 9 rfl rfl)
theorem dX6_sizes_34 : decode cX6_sizes 34 = .ok (.iload_n 3, 1) := dk_29 (dk_at dksX6_sizes_1 10 rfl rfl)
theorem dX6_sizes_35 : decode cX6_sizes 35 = .ok (.iastore, 1) := dk_79 (dk_at dksX6_sizes_1 11 rfl rfl)
theorem dX6_sizes_36 : decode cX6_sizes 36 = .ok (.dup, 1) := dk_89 (dk_at dksX6_sizes_1 12 rfl rfl)
theorem dX6_sizes_37 : decode cX6_sizes 37 = .ok (.iconst 3, 1) := dk_6 (dk_at dksX6_sizes_1 13 rfl rfl)
theorem dX6_sizes_38 : decode cX6_sizes 38 = .ok (.iload 4, 2) := dk_21 4 (dk_at dksX6_sizes_1 14 rfl rfl)
theorem dX6_sizes_40 : decode cX6_sizes 40 = .ok (.iastore, 1) := dk_79 (dk_at dksX6_sizes_1 16 rfl rfl)
theorem dX6_sizes_41 : decode cX6_sizes 41 = .ok (.dup, 1) := dk_89 (dk_at dksX6_sizes_1 17 rfl rfl)
theorem dX6_sizes_42 : decode cX6_sizes 42 = .ok (.iconst 4, 1) := dk_7 (dk_at dksX6_sizes_1 18 rfl rfl)
theorem dX6_sizes_43 : decode cX6_sizes 43 = .ok (.iload_n 1, 1) := dk_27 (dk_at dksX6_sizes_1 19 rfl rfl)
theorem dX6_sizes_44 : decode cX6_sizes 44 = .ok (.bipush 113, 2) := dk_16 113 (dk_at dksX6_sizes_1 20 rfl rfl)
theorem dX6_sizes_46 : decode cX6_sizes 46 = .ok (.if_icmp .ne 12, 3) := dk_160 0 12 (dk_at dksX6_sizes_2 0 rfl rfl)
theorem dX6_sizes_49 : decode cX6_sizes 49 = .ok (.aload_n 0, 1) := dk_42 (dk_at dksX6_sizes_2 3 rfl rfl)
theorem dX6_sizes_50 : decode cX6_sizes 50 = .ok (.bipush 42, 2) := dk_16 42 (dk_at dksX6_sizes_2 4 rfl rfl)
theorem dX6_sizes_52 : decode cX6_sizes 52 = .ok (.invokevirtual 71, 3) := dk_182 0 71 (dk_at dksX6_sizes_2 6 rfl rfl)
theorem dX6_sizes_55 : decode cX6_sizes 55 = .ok (.goto 4, 3) := dk_167 0 4 (dk_at dksX6_sizes_2 9 rfl rfl)
theorem dX6_sizes_58 : decode cX6_sizes 58 = .ok (.iconst 0, 1) := dk_3 (dk_at dksX6_sizes_2 12 rfl rfl)
theorem dX6_sizes_59 : decode cX6_sizes 59 = .ok (.iastore, 1) := dk_79 (dk_at dksX6_sizes_2 13 rfl rfl)
theorem dX6_sizes_60 : decode cX6_sizes 60 = .ok (.invokevirtual 75, 3) := dk_182 0 75 (dk_at dksX6_sizes_2 14 rfl rfl)
theorem dX6_sizes_63 : decode cX6_sizes 63 = .ok (.areturn, 1) := dk_176 (dk_at dksX6_sizes_2 17 rfl rfl)
theorem q115 : (Jvm.Cond.initialized "QuarryOrders$Reader") ∈ lw_all := lw_g (lw_at lw_m1 27 rfl) rfl
theorem q264 : (Jvm.Cond.fieldLinkNest "QuarryOrders$Reader" (31 : Nat) "QuarryOrders" "pad" "Ljava/lang/StringBuilder;" "QuarryOrders") ∈ lw_tbl := lw_at lw_m1 176 rfl
theorem q478 : (Jvm.Cond.selects "QuarryOrders$Reader" ({ cls := "java/lang/Object", name := "getClass", desc := "()Ljava/lang/Class;" } : Jvm.MethodName) ({ cls := "java/lang/Object", name := "getClass", desc := "()Ljava/lang/Class;" } : Jvm.MethodName)) ∈ lw_all := lw_g (lw_at lw_m2 150 rfl) rfl
theorem q1031 : (Jvm.Cond.instantiable "QuarryOrders$Reader" (4 : Nat)) ∈ lw_all := lw_g (lw_at lw_m4 223 rfl) rfl
theorem q1033 : (Jvm.Cond.instanceMethod ({ cls := "QuarryOrders$Reader", name := "<init>", desc := "(LQuarryOrders;)V" } : Jvm.MethodName)) ∈ lw_all := lw_g (lw_at lw_m4 225 rfl) rfl
theorem q1034 : (Jvm.Cond.code ({ cls := "QuarryOrders$Reader", name := "<init>", desc := "(LQuarryOrders;)V" } : Jvm.MethodName) prog_5_method_1_code (2 : Nat) (Option.none : Option Jvm.ClassFile.FieldType)) ∈ lw_all := lw_g (lw_at lw_m4 226 rfl) rfl
theorem q1035 : (Jvm.Cond.methodLink "QuarryOrders$Reader" (7 : Nat) ({ cls := "java/lang/Object", name := "<init>", desc := "()V" } : Jvm.MethodName)) ∈ lw_all := lw_g (lw_at lw_m4 227 rfl) rfl
theorem q1036 : (Jvm.Cond.classLink "QuarryOrders$Reader" (13 : Nat) "java/util/ArrayList") ∈ lw_all := lw_g (lw_at lw_m4 228 rfl) rfl
theorem q1037 : (Jvm.Cond.methodLink "QuarryOrders$Reader" (15 : Nat) ({ cls := "java/util/ArrayList", name := "<init>", desc := "()V" } : Jvm.MethodName)) ∈ lw_all := lw_g (lw_at lw_m4 229 rfl) rfl
theorem q1038 : (Jvm.Cond.methodLink "QuarryOrders$Reader" (20 : Nat) ({ cls := "QuarryOrders$Reader", name := "readOrder", desc := "()V" } : Jvm.MethodName)) ∈ lw_all := lw_g (lw_at lw_m4 230 rfl) rfl
theorem q1039 : (Jvm.Cond.privateMethod ({ cls := "QuarryOrders$Reader", name := "readOrder", desc := "()V" } : Jvm.MethodName)) ∈ lw_tbl := lw_at lw_m4 231 rfl
theorem q1040 : (Jvm.Cond.instanceMethod ({ cls := "QuarryOrders$Reader", name := "readOrder", desc := "()V" } : Jvm.MethodName)) ∈ lw_all := lw_g (lw_at lw_m4 232 rfl) rfl
theorem q1041 : (Jvm.Cond.code ({ cls := "QuarryOrders$Reader", name := "readOrder", desc := "()V" } : Jvm.MethodName) prog_5_method_14_code (2 : Nat) (Option.none : Option Jvm.ClassFile.FieldType)) ∈ lw_all := lw_g (lw_at lw_m4 233 rfl) rfl
theorem q1042 : (Jvm.Cond.methodLink "QuarryOrders$Reader" (51 : Nat) ({ cls := "QuarryOrders$Reader", name := "next", desc := "()C" } : Jvm.MethodName)) ∈ lw_all := lw_g (lw_at lw_m4 234 rfl) rfl
theorem q1043 : (Jvm.Cond.privateMethod ({ cls := "QuarryOrders$Reader", name := "next", desc := "()C" } : Jvm.MethodName)) ∈ lw_tbl := lw_at lw_m4 235 rfl
theorem q1044 : (Jvm.Cond.instanceMethod ({ cls := "QuarryOrders$Reader", name := "next", desc := "()C" } : Jvm.MethodName)) ∈ lw_all := lw_g (lw_at lw_m4 236 rfl) rfl
theorem q1045 : (Jvm.Cond.code ({ cls := "QuarryOrders$Reader", name := "next", desc := "()C" } : Jvm.MethodName) prog_5_method_2_code (1 : Nat) (Option.some Jvm.ClassFile.FieldType.char)) ∈ lw_all := lw_g (lw_at lw_m4 237 rfl) rfl
theorem q1046 : (Jvm.Cond.methodLink "QuarryOrders$Reader" (37 : Nat) ({ cls := "java/lang/StringBuilder", name := "length", desc := "()I" } : Jvm.MethodName)) ∈ lw_all := lw_g (lw_at lw_m4 238 rfl) rfl
theorem q1047 : (Jvm.Cond.methodLink "QuarryOrders$Reader" (47 : Nat) ({ cls := "java/lang/StringBuilder", name := "charAt", desc := "(I)C" } : Jvm.MethodName)) ∈ lw_all := lw_g (lw_at lw_m4 239 rfl) rfl
theorem q1059 : (Jvm.Cond.stringRef "QuarryOrders$Reader" (94 : Nat) "qcoglnd") ∈ lw_tbl := lw_at lw_m5 11 rfl
theorem q1060 : (Jvm.Cond.methodLink "QuarryOrders$Reader" (96 : Nat) ({ cls := "java/lang/String", name := "indexOf", desc := "(I)I" } : Jvm.MethodName)) ∈ lw_all := lw_g (lw_at lw_m5 12 rfl) rfl
theorem q1128 : (Jvm.Cond.methodLink "QuarryOrders$Reader" (102 : Nat) ({ cls := "QuarryOrders$Reader", name := "order", desc := "(C)[I" } : Jvm.MethodName)) ∈ lw_all := lw_g (lw_at lw_m5 80 rfl) rfl
theorem q1129 : (Jvm.Cond.privateMethod ({ cls := "QuarryOrders$Reader", name := "order", desc := "(C)[I" } : Jvm.MethodName)) ∈ lw_tbl := lw_at lw_m5 81 rfl
theorem q1130 : (Jvm.Cond.instanceMethod ({ cls := "QuarryOrders$Reader", name := "order", desc := "(C)[I" } : Jvm.MethodName)) ∈ lw_all := lw_g (lw_at lw_m5 82 rfl) rfl
theorem q1131 : (Jvm.Cond.code ({ cls := "QuarryOrders$Reader", name := "order", desc := "(C)[I" } : Jvm.MethodName) prog_5_method_13_code (4 : Nat) (Option.some (Jvm.ClassFile.FieldType.array Jvm.ClassFile.FieldType.int))) ∈ lw_all := lw_g (lw_at lw_m5 83 rfl) rfl
theorem q1132 : (Jvm.Cond.methodLink "QuarryOrders$Reader" (79 : Nat) ({ cls := "QuarryOrders$Reader", name := "cut", desc := "()[I" } : Jvm.MethodName)) ∈ lw_all := lw_g (lw_at lw_m5 84 rfl) rfl
theorem q1133 : (Jvm.Cond.privateMethod ({ cls := "QuarryOrders$Reader", name := "cut", desc := "()[I" } : Jvm.MethodName)) ∈ lw_tbl := lw_at lw_m5 85 rfl
theorem q1134 : (Jvm.Cond.instanceMethod ({ cls := "QuarryOrders$Reader", name := "cut", desc := "()[I" } : Jvm.MethodName)) ∈ lw_all := lw_g (lw_at lw_m5 86 rfl) rfl
theorem q1135 : (Jvm.Cond.code ({ cls := "QuarryOrders$Reader", name := "cut", desc := "()[I" } : Jvm.MethodName) prog_5_method_11_code (3 : Nat) (Option.some (Jvm.ClassFile.FieldType.array Jvm.ClassFile.FieldType.int))) ∈ lw_all := lw_g (lw_at lw_m5 87 rfl) rfl
theorem q1136 : (Jvm.Cond.methodLink "QuarryOrders$Reader" (62 : Nat) ({ cls := "QuarryOrders$Reader", name := "number", desc := "()I" } : Jvm.MethodName)) ∈ lw_all := lw_g (lw_at lw_m5 88 rfl) rfl
theorem q1137 : (Jvm.Cond.privateMethod ({ cls := "QuarryOrders$Reader", name := "number", desc := "()I" } : Jvm.MethodName)) ∈ lw_tbl := lw_at lw_m5 89 rfl
theorem q1138 : (Jvm.Cond.instanceMethod ({ cls := "QuarryOrders$Reader", name := "number", desc := "()I" } : Jvm.MethodName)) ∈ lw_all := lw_g (lw_at lw_m5 90 rfl) rfl
theorem q1139 : (Jvm.Cond.code ({ cls := "QuarryOrders$Reader", name := "number", desc := "()I" } : Jvm.MethodName) prog_5_method_7_code (3 : Nat) (Option.some Jvm.ClassFile.FieldType.int)) ∈ lw_all := lw_g (lw_at lw_m5 91 rfl) rfl
theorem q1140 : (Jvm.Cond.methodLink "QuarryOrders$Reader" (59 : Nat) ({ cls := "QuarryOrders$Reader", name := "digit", desc := "()I" } : Jvm.MethodName)) ∈ lw_all := lw_g (lw_at lw_m5 92 rfl) rfl
theorem q1141 : (Jvm.Cond.privateMethod ({ cls := "QuarryOrders$Reader", name := "digit", desc := "()I" } : Jvm.MethodName)) ∈ lw_tbl := lw_at lw_m5 93 rfl
theorem q1142 : (Jvm.Cond.instanceMethod ({ cls := "QuarryOrders$Reader", name := "digit", desc := "()I" } : Jvm.MethodName)) ∈ lw_all := lw_g (lw_at lw_m5 94 rfl) rfl
theorem q1143 : (Jvm.Cond.code ({ cls := "QuarryOrders$Reader", name := "digit", desc := "()I" } : Jvm.MethodName) prog_5_method_6_code (1 : Nat) (Option.some Jvm.ClassFile.FieldType.int)) ∈ lw_all := lw_g (lw_at lw_m5 95 rfl) rfl
theorem q1144 : (Jvm.Cond.methodLink "QuarryOrders$Reader" (55 : Nat) ({ cls := "QuarryOrders$Reader", name := "seesDigit", desc := "()Z" } : Jvm.MethodName)) ∈ lw_all := lw_g (lw_at lw_m5 96 rfl) rfl
theorem q1145 : (Jvm.Cond.privateMethod ({ cls := "QuarryOrders$Reader", name := "seesDigit", desc := "()Z" } : Jvm.MethodName)) ∈ lw_tbl := lw_at lw_m5 97 rfl
theorem q1146 : (Jvm.Cond.instanceMethod ({ cls := "QuarryOrders$Reader", name := "seesDigit", desc := "()Z" } : Jvm.MethodName)) ∈ lw_all := lw_g (lw_at lw_m5 98 rfl) rfl
theorem q1147 : (Jvm.Cond.code ({ cls := "QuarryOrders$Reader", name := "seesDigit", desc := "()Z" } : Jvm.MethodName) prog_5_method_5_code (1 : Nat) (Option.some Jvm.ClassFile.FieldType.boolean)) ∈ lw_all := lw_g (lw_at lw_m5 99 rfl) rfl
theorem q1148 : (Jvm.Cond.methodLink "QuarryOrders$Reader" (43 : Nat) ({ cls := "QuarryOrders$Reader", name := "sign", desc := "(C)V" } : Jvm.MethodName)) ∈ lw_all := lw_g (lw_at lw_m5 100 rfl) rfl
theorem q1149 : (Jvm.Cond.privateMethod ({ cls := "QuarryOrders$Reader", name := "sign", desc := "(C)V" } : Jvm.MethodName)) ∈ lw_tbl := lw_at lw_m5 101 rfl
theorem q1150 : (Jvm.Cond.instanceMethod ({ cls := "QuarryOrders$Reader", name := "sign", desc := "(C)V" } : Jvm.MethodName)) ∈ lw_all := lw_g (lw_at lw_m5 102 rfl) rfl
theorem q1151 : (Jvm.Cond.code ({ cls := "QuarryOrders$Reader", name := "sign", desc := "(C)V" } : Jvm.MethodName) prog_5_method_3_code (2 : Nat) (Option.none : Option Jvm.ClassFile.FieldType)) ∈ lw_all := lw_g (lw_at lw_m5 103 rfl) rfl
theorem q1152 : (Jvm.Cond.methodLink "QuarryOrders$Reader" (71 : Nat) ({ cls := "QuarryOrders$Reader", name := "behind", desc := "(C)I" } : Jvm.MethodName)) ∈ lw_all := lw_g (lw_at lw_m5 104 rfl) rfl
theorem q1153 : (Jvm.Cond.privateMethod ({ cls := "QuarryOrders$Reader", name := "behind", desc := "(C)I" } : Jvm.MethodName)) ∈ lw_tbl := lw_at lw_m5 105 rfl
theorem q1154 : (Jvm.Cond.instanceMethod ({ cls := "QuarryOrders$Reader", name := "behind", desc := "(C)I" } : Jvm.MethodName)) ∈ lw_all := lw_g (lw_at lw_m5 106 rfl) rfl
theorem q1155 : (Jvm.Cond.code ({ cls := "QuarryOrders$Reader", name := "behind", desc := "(C)I" } : Jvm.MethodName) prog_5_method_8_code (2 : Nat) (Option.some Jvm.ClassFile.FieldType.int)) ∈ lw_all := lw_g (lw_at lw_m5 107 rfl) rfl
theorem q1156 : (Jvm.Cond.methodLink "QuarryOrders$Reader" (75 : Nat) ({ cls := "QuarryOrders$Reader", name := "row", desc := "([I)[I" } : Jvm.MethodName)) ∈ lw_all := lw_g (lw_at lw_m5 108 rfl) rfl
theorem q1157 : (Jvm.Cond.privateMethod ({ cls := "QuarryOrders$Reader", name := "row", desc := "([I)[I" } : Jvm.MethodName)) ∈ lw_tbl := lw_at lw_m5 109 rfl
theorem q1158 : (Jvm.Cond.instanceMethod ({ cls := "QuarryOrders$Reader", name := "row", desc := "([I)[I" } : Jvm.MethodName)) ∈ lw_all := lw_g (lw_at lw_m5 110 rfl) rfl
theorem q1159 : (Jvm.Cond.code ({ cls := "QuarryOrders$Reader", name := "row", desc := "([I)[I" } : Jvm.MethodName) prog_5_method_9_code (3 : Nat) (Option.some (Jvm.ClassFile.FieldType.array Jvm.ClassFile.FieldType.int))) ∈ lw_all := lw_g (lw_at lw_m5 111 rfl) rfl
theorem q1160 : (Jvm.Cond.methodLink "QuarryOrders$Reader" (65 : Nat) ({ cls := "java/lang/System", name := "arraycopy", desc := "(Ljava/lang/Object;ILjava/lang/Object;II)V" } : Jvm.MethodName)) ∈ lw_all := lw_g (lw_at lw_m5 112 rfl) rfl
theorem q1161 : (Jvm.Cond.methodLink "QuarryOrders$Reader" (83 : Nat) ({ cls := "QuarryOrders$Reader", name := "load", desc := "()[I" } : Jvm.MethodName)) ∈ lw_all := lw_g (lw_at lw_m5 113 rfl) rfl
theorem q1162 : (Jvm.Cond.privateMethod ({ cls := "QuarryOrders$Reader", name := "load", desc := "()[I" } : Jvm.MethodName)) ∈ lw_tbl := lw_at lw_m5 114 rfl
theorem q1163 : (Jvm.Cond.instanceMethod ({ cls := "QuarryOrders$Reader", name := "load", desc := "()[I" } : Jvm.MethodName)) ∈ lw_all := lw_g (lw_at lw_m5 115 rfl) rfl
theorem q1164 : (Jvm.Cond.code ({ cls := "QuarryOrders$Reader", name := "load", desc := "()[I" } : Jvm.MethodName) prog_5_method_12_code (3 : Nat) (Option.some (Jvm.ClassFile.FieldType.array Jvm.ClassFile.FieldType.int))) ∈ lw_all := lw_g (lw_at lw_m5 116 rfl) rfl
theorem q1165 : (Jvm.Cond.methodLink "QuarryOrders$Reader" (86 : Nat) ({ cls := "QuarryOrders$Reader", name := "takes", desc := "(C)Z" } : Jvm.MethodName)) ∈ lw_all := lw_g (lw_at lw_m5 117 rfl) rfl
theorem q1166 : (Jvm.Cond.privateMethod ({ cls := "QuarryOrders$Reader", name := "takes", desc := "(C)Z" } : Jvm.MethodName)) ∈ lw_tbl := lw_at lw_m5 118 rfl
theorem q1167 : (Jvm.Cond.instanceMethod ({ cls := "QuarryOrders$Reader", name := "takes", desc := "(C)Z" } : Jvm.MethodName)) ∈ lw_all := lw_g (lw_at lw_m5 119 rfl) rfl
theorem q1168 : (Jvm.Cond.code ({ cls := "QuarryOrders$Reader", name := "takes", desc := "(C)Z" } : Jvm.MethodName) prog_5_method_4_code (3 : Nat) (Option.some Jvm.ClassFile.FieldType.boolean)) ∈ lw_all := lw_g (lw_at lw_m5 120 rfl) rfl
theorem q1169 : (Jvm.Cond.methodLink "QuarryOrders$Reader" (90 : Nat) ({ cls := "QuarryOrders$Reader", name := "sizes", desc := "(C)[I" } : Jvm.MethodName)) ∈ lw_all := lw_g (lw_at lw_m5 121 rfl) rfl
theorem q1170 : (Jvm.Cond.privateMethod ({ cls := "QuarryOrders$Reader", name := "sizes", desc := "(C)[I" } : Jvm.MethodName)) ∈ lw_tbl := lw_at lw_m5 122 rfl
theorem q1171 : (Jvm.Cond.instanceMethod ({ cls := "QuarryOrders$Reader", name := "sizes", desc := "(C)[I" } : Jvm.MethodName)) ∈ lw_all := lw_g (lw_at lw_m5 123 rfl) rfl
theorem q1172 : (Jvm.Cond.code ({ cls := "QuarryOrders$Reader", name := "sizes", desc := "(C)[I" } : Jvm.MethodName) prog_5_method_10_code (5 : Nat) (Option.some (Jvm.ClassFile.FieldType.array Jvm.ClassFile.FieldType.int))) ∈ lw_all := lw_g (lw_at lw_m5 124 rfl) rfl
theorem q1173 : (Jvm.Cond.interfaceEntry "QuarryOrders$Reader" (105 : Nat)) ∈ lw_tbl := lw_at lw_m5 125 rfl
theorem q1174 : (Jvm.Cond.methodLink "QuarryOrders$Reader" (105 : Nat) ({ cls := "java/util/List", name := "add", desc := "(Ljava/lang/Object;)Z" } : Jvm.MethodName)) ∈ lw_all := lw_g (lw_at lw_m5 126 rfl) rfl
theorem q1175 : (Jvm.Cond.fieldLink "QuarryOrders$Reader" (16 : Nat) "QuarryOrders$Reader" "orders" "Ljava/util/List;") ∈ lw_all := lw_g (lw_at lw_m5 127 rfl) rfl
theorem q1177 : (Jvm.Cond.fieldLink "QuarryOrders$Reader" (27 : Nat) "QuarryOrders$Reader" "spot" "I") ∈ lw_all := lw_g (lw_at lw_m5 129 rfl) rfl
theorem q1179 : (Jvm.Cond.fieldLink "QuarryOrders$Reader" (23 : Nat) "QuarryOrders$Reader" "isWrong" "Z") ∈ lw_all := lw_g (lw_at lw_m5 131 rfl) rfl
theorem q1181 : (Jvm.Cond.fieldLink "QuarryOrders$Reader" (1 : Nat) "QuarryOrders$Reader" "this$0" "LQuarryOrders;") ∈ lw_all := lw_g (lw_at lw_m5 133 rfl) rfl
theorem q1182 : (Jvm.Cond.laysFinal "QuarryOrders$Reader" "QuarryOrders$Reader" "orders" "Ljava/util/List;") ∈ lw_all := lw_g (lw_at lw_m5 134 rfl) rfl
theorem q1183 : (Jvm.Cond.soleField "QuarryOrders$Reader" "orders") ∈ lw_all := lw_g (lw_at lw_m5 135 rfl) rfl
theorem q1184 : (Jvm.Cond.lays "QuarryOrders$Reader" "QuarryOrders$Reader" "spot" "I") ∈ lw_all := lw_g (lw_at lw_m5 136 rfl) rfl
theorem q1185 : (Jvm.Cond.soleField "QuarryOrders$Reader" "spot") ∈ lw_all := lw_g (lw_at lw_m5 137 rfl) rfl
theorem q1186 : (Jvm.Cond.lays "QuarryOrders$Reader" "QuarryOrders$Reader" "isWrong" "Z") ∈ lw_all := lw_g (lw_at lw_m5 138 rfl) rfl
theorem q1187 : (Jvm.Cond.soleField "QuarryOrders$Reader" "isWrong") ∈ lw_all := lw_g (lw_at lw_m5 139 rfl) rfl
theorem q1188 : (Jvm.Cond.laysFinal "QuarryOrders$Reader" "QuarryOrders$Reader" "this$0" "LQuarryOrders;") ∈ lw_all := lw_g (lw_at lw_m5 140 rfl) rfl
theorem q1189 : (Jvm.Cond.soleField "QuarryOrders$Reader" "this$0") ∈ lw_all := lw_g (lw_at lw_m5 141 rfl) rfl
theorem q1190 : (Jvm.Cond.superclass "QuarryOrders$Reader" "java/lang/Object") ∈ lw_all := lw_g (lw_at lw_m5 142 rfl) rfl
theorem q1613 : (Jvm.Cond.castable "QuarryOrders$Reader" "java/lang/Object") ∈ lw_tbl := lw_at lw_m7 85 rfl
theorem in_X6 : ∀ w ∈ wsX60, w ∈ lw_all := lw_in wsX60 [1182, 1184, 1186, 1188] (by decide +kernel) (by decide +kernel)

