/-! QuarryOrders -/
set_option maxRecDepth 100000
def RX0 : String := "QuarryOrders"
def TX0 : u_T := fun k => match k with
  | 0 => ("QuarryOrders", "now", "LQuarryOrders$Quarry;", false)
  | 1 => ("QuarryOrders", "past", "Ljava/util/List;", true)
  | 2 => ("QuarryOrders", "saved", "[LQuarryOrders$Quarry;", true)
  | _ => ("QuarryOrders", "pad", "Ljava/lang/StringBuilder;", true)
def tyX0 : Nat → FieldType := fun k => match k with
  | 0 => .object "QuarryOrders$Quarry"
  | 1 => .object "java/util/List"
  | 2 => .array (.object "QuarryOrders$Quarry")
  | _ => .object "java/lang/StringBuilder"
abbrev wsX00 : List Cond := u_ws RX0 TX0 4
theorem nmX0 : ∀ a, a < 4 → ∀ b, b < 4 → a ≠ b → (TX0 a).2.1 ≠ (TX0 b).2.1 := by decide +kernel
theorem tyX0_ok : ∀ k, k < 4 → parseFieldDescriptor (TX0 k).2.2.1 = some (tyX0 k) := by decide +kernel
abbrev cX0_init : ByteArray := prog_1_method_3_code
def yX0_init : MethodName := ⟨RX0, "<init>", "()V"⟩
def dkwX0_init_1 : List UInt8 := [181, 0, 23, 42, 5, 189, 0, 13, 181, 0, 27, 42, 187, 0, 31, 89, 183, 0, 33, 181, 0, 34, 177]
abbrev dktX0_init_1 : List UInt8 := dkwX0_init_1 ++ []
def dkwX0_init_0 : List UInt8 := [42, 183, 0, 7, 42, 187, 0, 13, 89, 183, 0, 15, 181, 0, 16, 42, 187, 0, 20, 89, 183, 0, 22]
abbrev dktX0_init_0 : List UInt8 := dkwX0_init_0 ++ dktX0_init_1
theorem dksX0_init_0 : cX0_init.data.toList.drop 0 = dktX0_init_0 := by decide +kernel
theorem dksX0_init_1 : cX0_init.data.toList.drop 23 = dktX0_init_1 := dk_seg dksX0_init_0 23 rfl rfl
theorem dX0_init_0 : decode cX0_init 0 = .ok (.aload_n 0, 1) := dk_42 (dk_at dksX0_init_0 0 rfl rfl)
theorem dX0_init_1 : decode cX0_init 1 = .ok (.invokespecial 7, 3) := dk_183 0 7 (dk_at dksX0_init_0 1 rfl rfl)
theorem dX0_init_4 : decode cX0_init 4 = .ok (.aload_n 0, 1) := dk_42 (dk_at dksX0_init_0 4 rfl rfl)
theorem dX0_init_5 : decode cX0_init 5 = .ok (.new 13, 3) := dk_187 0 13 (dk_at dksX0_init_0 5 rfl rfl)
theorem dX0_init_8 : decode cX0_init 8 = .ok (.dup, 1) := dk_89 (dk_at dksX0_init_0 8 rfl rfl)
theorem dX0_init_9 : decode cX0_init 9 = .ok (.invokespecial 15, 3) := dk_183 0 15 (dk_at dksX0_init_0 9 rfl rfl)
theorem dX0_init_12 : decode cX0_init 12 = .ok (.putfield 16, 3) := dk_181 0 16 (dk_at dksX0_init_0 12 rfl rfl)
theorem dX0_init_15 : decode cX0_init 15 = .ok (.aload_n 0, 1) := dk_42 (dk_at dksX0_init_0 15 rfl rfl)
theorem dX0_init_16 : decode cX0_init 16 = .ok (.new 20, 3) := dk_187 0 20 (dk_at dksX0_init_0 16 rfl rfl)
theorem dX0_init_19 : decode cX0_init 19 = .ok (.dup, 1) := dk_89 (dk_at dksX0_init_0 19 rfl rfl)
theorem dX0_init_20 : decode cX0_init 20 = .ok (.invokespecial 22, 3) := dk_183 0 22 (dk_at dksX0_init_0 20 rfl rfl)
theorem dX0_init_23 : decode cX0_init 23 = .ok (.putfield 23, 3) := dk_181 0 23 (dk_at dksX0_init_1 0 rfl rfl)
theorem dX0_init_26 : decode cX0_init 26 = .ok (.aload_n 0, 1) := dk_42 (dk_at dksX0_init_1 3 rfl rfl)
theorem dX0_init_27 : decode cX0_init 27 = .ok (.iconst 2, 1) := dk_5 (dk_at dksX0_init_1 4 rfl rfl)
theorem dX0_init_28 : decode cX0_init 28 = .ok (.anewarray 13, 3) := dk_189 0 13 (dk_at dksX0_init_1 5 rfl rfl)
theorem dX0_init_31 : decode cX0_init 31 = .ok (.putfield 27, 3) := dk_181 0 27 (dk_at dksX0_init_1 8 rfl rfl)
theorem dX0_init_34 : decode cX0_init 34 = .ok (.aload_n 0, 1) := dk_42 (dk_at dksX0_init_1 11 rfl rfl)
theorem dX0_init_35 : decode cX0_init 35 = .ok (.new 31, 3) := dk_187 0 31 (dk_at dksX0_init_1 12 rfl rfl)
theorem dX0_init_38 : decode cX0_init 38 = .ok (.dup, 1) := dk_89 (dk_at dksX0_init_1 15 rfl rfl)
theorem dX0_init_39 : decode cX0_init 39 = .ok (.invokespecial 33, 3) := dk_183 0 33 (dk_at dksX0_init_1 16 rfl rfl)
theorem dX0_init_42 : decode cX0_init 42 = .ok (.putfield 34, 3) := dk_181 0 34 (dk_at dksX0_init_1 19 rfl rfl)
theorem dX0_init_45 : decode cX0_init 45 = .ok (.return_, 1) := dk_177 (dk_at dksX0_init_1 22 rfl rfl)
abbrev cX0_set : ByteArray := prog_1_method_19_code
def yX0_set : MethodName := ⟨RX0, "set", "(II)I"⟩
def dkwX0_set_3 : List UInt8 := [180, 0, 16, 180, 0, 145, 27, 28, 79, 16, 100, 21, 5, 96, 172]
abbrev dktX0_set_3 : List UInt8 := dkwX0_set_3 ++ []
def dkwX0_set_2 : List UInt8 := [54, 4, 21, 4, 156, 0, 6, 21, 4, 172, 42, 180, 0, 16, 180, 0, 145, 27, 46, 54, 5, 42]
abbrev dktX0_set_2 : List UInt8 := dkwX0_set_2 ++ dktX0_set_3
def dkwX0_set_1 : List UInt8 := [153, 0, 7, 4, 167, 0, 4, 3, 62, 42, 29, 153, 0, 7, 3, 167, 0, 5, 16, 254, 4, 182, 0, 141]
abbrev dktX0_set_1 : List UInt8 := dkwX0_set_1 ++ dktX0_set_2
def dkwX0_set_0 : List UInt8 := [27, 3, 6, 184, 0, 3, 153, 0, 24, 28, 178, 0, 134, 27, 46, 178, 0, 138, 27, 46, 184, 0, 3]
abbrev dktX0_set_0 : List UInt8 := dkwX0_set_0 ++ dktX0_set_1
theorem dksX0_set_0 : cX0_set.data.toList.drop 0 = dktX0_set_0 := by decide +kernel
theorem dksX0_set_1 : cX0_set.data.toList.drop 23 = dktX0_set_1 := dk_seg dksX0_set_0 23 rfl rfl
theorem dksX0_set_2 : cX0_set.data.toList.drop 47 = dktX0_set_2 := dk_seg dksX0_set_1 24 rfl rfl
theorem dksX0_set_3 : cX0_set.data.toList.drop 69 = dktX0_set_3 := dk_seg dksX0_set_2 22 rfl rfl
theorem dX0_set_0 : decode cX0_set 0 = .ok (.iload_n 1, 1) := dk_27 (dk_at dksX0_set_0 0 rfl rfl)
theorem dX0_set_1 : decode cX0_set 1 = .ok (.iconst 0, 1) := dk_3 (dk_at dksX0_set_0 1 rfl rfl)
theorem dX0_set_2 : decode cX0_set 2 = .ok (.iconst 3, 1) := dk_6 (dk_at dksX0_set_0 2 rfl rfl)
theorem dX0_set_3 : decode cX0_set 3 = .ok (.invokestatic 3, 3) := dk_184 0 3 (dk_at dksX0_set_0 3 rfl rfl)
theorem dX0_set_6 : decode cX0_set 6 = .ok (.ifCond .eq 24, 3) := dk_153 0 24 (dk_at dksX0_set_0 6 rfl rfl)
theorem dX0_set_9 : decode cX0_set 9 = .ok (.iload_n 2, 1) := dk_28 (dk_at dksX0_set_0 9 rfl rfl)
theorem dX0_set_10 : decode cX0_set 10 = .ok (.getstatic 134, 3) := dk_178 0 134 (dk_at dksX0_set_0 10 rfl rfl)
theorem dX0_set_13 : decode cX0_set 13 = .ok (.iload_n 1, 1) := dk_27 (dk_at dksX0_set_0 13 rfl rfl)
theorem dX0_set_14 : decode cX0_set 14 = .ok (.iaload, 1) := dk_46 (dk_at dksX0_set_0 14 rfl rfl)
theorem dX0_set_15 : decode cX0_set 15 = .ok (.getstatic 138, 3) := dk_178 0 138 (dk_at dksX0_set_0 15 rfl rfl)
theorem dX0_set_18 : decode cX0_set 18 = .ok (.iload_n 1, 1) := dk_27 (dk_at dksX0_set_0 18 rfl rfl)
theorem dX0_set_19 : decode cX0_set 19 = .ok (.iaload, 1) := dk_46 (dk_at dksX0_set_0 19 rfl rfl)
theorem dX0_set_20 : decode cX0_set 20 = .ok (.invokestatic 3, 3) := dk_184 0 3 (dk_at dksX0_set_0 20 rfl rfl)
theorem dX0_set_23 : decode cX0_set 23 = .ok (.ifCond .eq 7, 3) := dk_153 0 7 (dk_at dksX0_set_1 0 rfl rfl)
theorem dX0_set_26 : decode cX0_set 26 = .ok (.iconst 1, 1) := dk_4 (dk_at dksX0_set_1 3 rfl rfl)
theorem dX0_set_27 : decode cX0_set 27 = .ok (.goto 4, 3) := dk_167 0 4 (dk_at dksX0_set_1 4 rfl rfl)
theorem dX0_set_30 : decode cX0_set 30 = .ok (.iconst 0, 1) := dk_3 (dk_at dksX0_set_1 7 rfl rfl)
theorem dX0_set_31 : decode cX0_set 31 = .ok (.istore_n 3, 1) := dk_62 (dk_at dksX0_set_1 8 rfl rfl)
theorem dX0_set_32 : decode cX0_set 32 = .ok (.aload_n 0, 1) := dk_42 (dk_at dksX0_set_1 9 rfl rfl)
theorem dX0_set_33 : decode cX0_set 33 = .ok (.iload_n 3, 1) := dk_29 (dk_at dksX0_set_1 10 rfl rfl)
theorem dX0_set_34 : decode cX0_set 34 = .ok (.ifCond .eq 7, 3) := dk_153 0 7 (dk_at dksX0_set_1 11 rfl rfl)
theorem dX0_set_37 : decode cX0_set 37 = .ok (.iconst 0, 1) := dk_3 (dk_at dksX0_set_1 14 rfl rfl)
theorem dX0_set_38 : decode cX0_set 38 = .ok (.goto 5, 3) := dk_167 0 5 (dk_at dksX0_set_1 15 rfl rfl)
theorem dX0_set_41 : decode cX0_set 41 = .ok (.bipush (-2), 2) := dk_16 254 (dk_at dksX0_set_1 18 rfl rfl)
theorem dX0_set_43 : decode cX0_set 43 = .ok (.iconst 1, 1) := dk_4 (dk_at dksX0_set_1 20 rfl rfl)
theorem dX0_set_44 : decode cX0_set 44 = .ok (.invokevirtual 141, 3) := dk_182 0 141 (dk_at dksX0_set_1 21 rfl rfl)
theorem dX0_set_47 : decode cX0_set 47 = .ok (.istore 4, 2) := dk_54 4 (dk_at dksX0_set_2 0 rfl rfl)
theorem dX0_set_49 : decode cX0_set 49 = .ok (.iload 4, 2) := dk_21 4 (dk_at dksX0_set_2 2 rfl rfl)
theorem dX0_set_51 : decode cX0_set 51 = .ok (.ifCond .ge 6, 3) := dk_156 0 6 (dk_at dksX0_set_2 4 rfl rfl)
theorem dX0_set_54 : decode cX0_set 54 = .ok (.iload 4, 2) := dk_21 4 (dk_at dksX0_set_2 7 rfl rfl)
theorem dX0_set_56 : decode cX0_set 56 = .ok (.ireturn, 1) := dk_172 (dk_at dksX0_set_2 9 rfl rfl)
theorem dX0_set_57 : decode cX0_set 57 = .ok (.aload_n 0, 1) := dk_42 (dk_at dksX0_set_2 10 rfl rfl)
theorem dX0_set_58 : decode cX0_set 58 = .ok (.getfield 16, 3) := dk_180 0 16 (dk_at dksX0_set_2 11 rfl rfl)
theorem dX0_set_61 : decode cX0_set 61 = .ok (.getfield 145, 3) := dk_180 0 145 (dk_at dksX0_set_2 14 rfl rfl)
theorem dX0_set_64 : decode cX0_set 64 = .ok (.iload_n 1, 1) := dk_27 (dk_at dksX0_set_2 17 rfl rfl)
theorem dX0_set_65 : decode cX0_set 65 = .ok (.iaload, 1) := dk_46 (dk_at dksX0_set_2 18 rfl rfl)
theorem dX0_set_66 : decode cX0_set 66 = .ok (.istore 5, 2) := dk_54 5 (dk_at dksX0_set_2 19 rfl rfl)
theorem dX0_set_68 : decode cX0_set 68 = .ok (.aload_n 0, 1) := dk_42 (dk_at dksX0_set_2 21 rfl rfl)
theorem dX0_set_69 : decode cX0_set 69 = .ok (.getfield 16, 3) := dk_180 0 16 (dk_at dksX0_set_3 0 rfl rfl)
theorem dX0_set_72 : decode cX0_set 72 = .ok (.getfield 145, 3) := dk_180 0 145 (dk_at dksX0_set_3 3 rfl rfl)
theorem dX0_set_75 : decode cX0_set 75 = .ok (.iload_n 1, 1) := dk_27 (dk_at dksX0_set_3 6 rfl rfl)
theorem dX0_set_76 : decode cX0_set 76 = .ok (.iload_n 2, 1) := dk_28 (dk_at dksX0_set_3 7 rfl rfl)
theorem dX0_set_77 : decode cX0_set 77 = .ok (.iastore, 1) := dk_79 (dk_at dksX0_set_3 8 rfl rfl)
theorem dX0_set_78 : decode cX0_set 78 = .ok (.bipush 100, 2) := dk_16 100 (dk_at dksX0_set_3 9 rfl rfl)
theorem dX0_set_80 : decode cX0_set 80 = .ok (.iload 5, 2) := dk_21 5 (dk_at dksX0_set_3 11 rfl rfl)
theorem dX0_set_82 : decode cX0_set 82 = .ok (.iadd, 1) := dk_96 (dk_at dksX0_set_3 13 rfl rfl)
theorem dX0_set_83 : decode cX0_set 83 = .ok (.ireturn, 1) := dk_172 (dk_at dksX0_set_3 14 rfl rfl)
abbrev cX0_isIn : ByteArray := prog_1_method_1_code
def yX0_isIn : MethodName := ⟨RX0, "isIn", "(III)Z"⟩
def dkwX0_isIn_0 : List UInt8 := [26, 27, 161, 0, 12, 26, 28, 163, 0, 7, 4, 167, 0, 4, 3, 172]
abbrev dktX0_isIn_0 : List UInt8 := dkwX0_isIn_0 ++ []
theorem dksX0_isIn_0 : cX0_isIn.data.toList.drop 0 = dktX0_isIn_0 := by decide +kernel
theorem dX0_isIn_0 : decode cX0_isIn 0 = .ok (.iload_n 0, 1) := dk_26 (dk_at dksX0_isIn_0 0 rfl rfl)
theorem dX0_isIn_1 : decode cX0_isIn 1 = .ok (.iload_n 1, 1) := dk_27 (dk_at dksX0_isIn_0 1 rfl rfl)
theorem dX0_isIn_2 : decode cX0_isIn 2 = .ok (.if_icmp .lt 12, 3) := dk_161 0 12 (dk_at dksX0_isIn_0 2 rfl rfl)
theorem dX0_isIn_5 : decode cX0_isIn 5 = .ok (.iload_n 0, 1) := dk_26 (dk_at dksX0_isIn_0 5 rfl rfl)
theorem dX0_isIn_6 : decode cX0_isIn 6 = .ok (.iload_n 2, 1) := dk_28 (dk_at dksX0_isIn_0 6 rfl rfl)
theorem dX0_isIn_7 : decode cX0_isIn 7 = .ok (.if_icmp .gt 7, 3) := dk_163 0 7 (dk_at dksX0_isIn_0 7 rfl rfl)
theorem dX0_isIn_10 : decode cX0_isIn 10 = .ok (.iconst 1, 1) := dk_4 (dk_at dksX0_isIn_0 10 rfl rfl)
theorem dX0_isIn_11 : decode cX0_isIn 11 = .ok (.goto 4, 3) := dk_167 0 4 (dk_at dksX0_isIn_0 11 rfl rfl)
theorem dX0_isIn_14 : decode cX0_isIn 14 = .ok (.iconst 0, 1) := dk_3 (dk_at dksX0_isIn_0 14 rfl rfl)
theorem dX0_isIn_15 : decode cX0_isIn 15 = .ok (.ireturn, 1) := dk_172 (dk_at dksX0_isIn_0 15 rfl rfl)
abbrev cX0_begun : ByteArray := prog_1_method_10_code
def yX0_begun : MethodName := ⟨RX0, "begun", "(IZ)I"⟩
def dkwX0_begun_0 : List UInt8 := [27, 154, 0, 11, 28, 153, 0, 7, 42, 182, 0, 69, 27, 172]
abbrev dktX0_begun_0 : List UInt8 := dkwX0_begun_0 ++ []
theorem dksX0_begun_0 : cX0_begun.data.toList.drop 0 = dktX0_begun_0 := by decide +kernel
theorem dX0_begun_0 : decode cX0_begun 0 = .ok (.iload_n 1, 1) := dk_27 (dk_at dksX0_begun_0 0 rfl rfl)
theorem dX0_begun_1 : decode cX0_begun 1 = .ok (.ifCond .ne 11, 3) := dk_154 0 11 (dk_at dksX0_begun_0 1 rfl rfl)
theorem dX0_begun_4 : decode cX0_begun 4 = .ok (.iload_n 2, 1) := dk_28 (dk_at dksX0_begun_0 4 rfl rfl)
theorem dX0_begun_5 : decode cX0_begun 5 = .ok (.ifCond .eq 7, 3) := dk_153 0 7 (dk_at dksX0_begun_0 5 rfl rfl)
theorem dX0_begun_8 : decode cX0_begun 8 = .ok (.aload_n 0, 1) := dk_42 (dk_at dksX0_begun_0 8 rfl rfl)
theorem dX0_begun_9 : decode cX0_begun 9 = .ok (.invokevirtual 69, 3) := dk_182 0 69 (dk_at dksX0_begun_0 9 rfl rfl)
theorem dX0_begun_12 : decode cX0_begun 12 = .ok (.iload_n 1, 1) := dk_27 (dk_at dksX0_begun_0 12 rfl rfl)
theorem dX0_begun_13 : decode cX0_begun 13 = .ok (.ireturn, 1) := dk_172 (dk_at dksX0_begun_0 13 rfl rfl)
abbrev cX0_record : ByteArray := prog_1_method_4_code
def yX0_record : MethodName := ⟨RX0, "record", "()V"⟩
def dkwX0_record_1 : List UInt8 := [87, 42, 180, 0, 23, 42, 180, 0, 16, 182, 0, 48, 185, 0, 52, 2, 0, 87, 177]
abbrev dktX0_record_1 : List UInt8 := dkwX0_record_1 ++ []
def dkwX0_record_0 : List UInt8 := [42, 180, 0, 23, 185, 0, 38, 1, 0, 16, 6, 160, 0, 14, 42, 180, 0, 23, 3, 185, 0, 44, 2, 0]
abbrev dktX0_record_0 : List UInt8 := dkwX0_record_0 ++ dktX0_record_1
theorem dksX0_record_0 : cX0_record.data.toList.drop 0 = dktX0_record_0 := by decide +kernel
theorem dksX0_record_1 : cX0_record.data.toList.drop 24 = dktX0_record_1 := dk_seg dksX0_record_0 24 rfl rfl
theorem dX0_record_0 : decode cX0_record 0 = .ok (.aload_n 0, 1) := dk_42 (dk_at dksX0_record_0 0 rfl rfl)
theorem dX0_record_1 : decode cX0_record 1 = .ok (.getfield 23, 3) := dk_180 0 23 (dk_at dksX0_record_0 1 rfl rfl)
theorem dX0_record_4 : decode cX0_record 4 = .ok (.invokeinterface 38 1, 5) := by decide +kernel
theorem dX0_record_9 : decode cX0_record 9 = .ok (.bipush 6, 2) := dk_16 6 (dk_at dksX0_record_0 9 rfl rfl)
theorem dX0_record_11 : decode cX0_record 11 = .ok (.if_icmp .ne 14, 3) := dk_160 0 14 (dk_at dksX0_record_0 11 rfl rfl)
theorem dX0_record_14 : decode cX0_record 14 = .ok (.aload_n 0, 1) := dk_42 (dk_at dksX0_record_0 14 rfl rfl)
theorem dX0_record_15 : decode cX0_record 15 = .ok (.getfield 23, 3) := dk_180 0 23 (dk_at dksX0_record_0 15 rfl rfl)
theorem dX0_record_18 : decode cX0_record 18 = .ok (.iconst 0, 1) := dk_3 (dk_at dksX0_record_0 18 rfl rfl)
theorem dX0_record_19 : decode cX0_record 19 = .ok (.invokeinterface 44 2, 5) := by decide +kernel
theorem dX0_record_24 : decode cX0_record 24 = .ok (.pop, 1) := dk_87 (dk_at dksX0_record_1 0 rfl rfl)
theorem dX0_record_25 : decode cX0_record 25 = .ok (.aload_n 0, 1) := dk_42 (dk_at dksX0_record_1 1 rfl rfl)
theorem dX0_record_26 : decode cX0_record 26 = .ok (.getfield 23, 3) := dk_180 0 23 (dk_at dksX0_record_1 2 rfl rfl)
theorem dX0_record_29 : decode cX0_record 29 = .ok (.aload_n 0, 1) := dk_42 (dk_at dksX0_record_1 5 rfl rfl)
theorem dX0_record_30 : decode cX0_record 30 = .ok (.getfield 16, 3) := dk_180 0 16 (dk_at dksX0_record_1 6 rfl rfl)
theorem dX0_record_33 : decode cX0_record 33 = .ok (.invokevirtual 48, 3) := dk_182 0 48 (dk_at dksX0_record_1 9 rfl rfl)
theorem dX0_record_36 : decode cX0_record 36 = .ok (.invokeinterface 52 2, 5) := by decide +kernel
theorem dX0_record_41 : decode cX0_record 41 = .ok (.pop, 1) := dk_87 (dk_at dksX0_record_1 17 rfl rfl)
theorem dX0_record_42 : decode cX0_record 42 = .ok (.return_, 1) := dk_177 (dk_at dksX0_record_1 18 rfl rfl)
abbrev cX0_quarry : ByteArray := prog_1_method_21_code
def yX0_quarry : MethodName := ⟨RX0, "quarry", "(IIII)I"⟩
def dkwX0_quarry_0 : List UInt8 := [42, 4, 21, 4, 6, 188, 10, 89, 3, 27, 79, 89, 4, 28, 79, 89, 5, 29, 79, 182, 0, 161, 172]
abbrev dktX0_quarry_0 : List UInt8 := dkwX0_quarry_0 ++ []
theorem dksX0_quarry_0 : cX0_quarry.data.toList.drop 0 = dktX0_quarry_0 := by decide +kernel
theorem dX0_quarry_0 : decode cX0_quarry 0 = .ok (.aload_n 0, 1) := dk_42 (dk_at dksX0_quarry_0 0 rfl rfl)
theorem dX0_quarry_1 : decode cX0_quarry 1 = .ok (.iconst 1, 1) := dk_4 (dk_at dksX0_quarry_0 1 rfl rfl)
theorem dX0_quarry_2 : decode cX0_quarry 2 = .ok (.iload 4, 2) := dk_21 4 (dk_at dksX0_quarry_0 2 rfl rfl)
theorem dX0_quarry_4 : decode cX0_quarry 4 = .ok (.iconst 3, 1) := dk_6 (dk_at dksX0_quarry_0 4 rfl rfl)
theorem dX0_quarry_5 : decode cX0_quarry 5 = .ok (.newarray .int, 2) := dk_188_10 (dk_at dksX0_quarry_0 5 rfl rfl)
theorem dX0_quarry_7 : decode cX0_quarry 7 = .ok (.dup, 1) := dk_89 (dk_at dksX0_quarry_0 7 rfl rfl)
theorem dX0_quarry_8 : decode cX0_quarry 8 = .ok (.iconst 0, 1) := dk_3 (dk_at dksX0_quarry_0 8 rfl rfl)
theorem dX0_quarry_9 : decode cX0_quarry 9 = .ok (.iload_n 1, 1) := dk_27 (dk_at dksX0_quarry_0 9 rfl rfl)
theorem dX0_quarry_10 : decode cX0_quarry 10 = .ok (.iastore, 1) := dk_79 (dk_at dksX0_quarry_0 10 rfl rfl)
theorem dX0_quarry_11 : decode cX0_quarry 11 = .ok (.dup, 1) := dk_89 (dk_at dksX0_quarry_0 11 rfl rfl)
theorem dX0_quarry_12 : decode cX0_quarry 12 = .ok (.iconst 1, 1) := dk_4 (dk_at dksX0_quarry_0 12 rfl rfl)
theorem dX0_quarry_13 : decode cX0_quarry 13 = .ok (.iload_n 2, 1) := dk_28 (dk_at dksX0_quarry_0 13 rfl rfl)
theorem dX0_quarry_14 : decode cX0_quarry 14 = .ok (.iastore, 1) := dk_79 (dk_at dksX0_quarry_0 14 rfl rfl)
theorem dX0_quarry_15 : decode cX0_quarry 15 = .ok (.dup, 1) := dk_89 (dk_at dksX0_quarry_0 15 rfl rfl)
theorem dX0_quarry_16 : decode cX0_quarry 16 = .ok (.iconst 2, 1) := dk_5 (dk_at dksX0_quarry_0 16 rfl rfl)
theorem dX0_quarry_17 : decode cX0_quarry 17 = .ok (.iload_n 3, 1) := dk_29 (dk_at dksX0_quarry_0 17 rfl rfl)
theorem dX0_quarry_18 : decode cX0_quarry 18 = .ok (.iastore, 1) := dk_79 (dk_at dksX0_quarry_0 18 rfl rfl)
theorem dX0_quarry_19 : decode cX0_quarry 19 = .ok (.invokevirtual 161, 3) := dk_182 0 161 (dk_at dksX0_quarry_0 19 rfl rfl)
theorem dX0_quarry_22 : decode cX0_quarry 22 = .ok (.ireturn, 1) := dk_172 (dk_at dksX0_quarry_0 22 rfl rfl)
abbrev cX0_quarries : ByteArray := prog_1_method_20_code
def yX0_quarries : MethodName := ⟨RX0, "quarries", "(ZI[I)I"⟩
def dkwX0_quarries_1 : List UInt8 := [180, 0, 16, 187, 0, 152, 89, 45, 3, 46, 45, 4, 46, 45, 5, 46, 183, 0, 154, 28, 182, 0, 157, 172]
abbrev dktX0_quarries_1 : List UInt8 := dkwX0_quarries_1 ++ []
def dkwX0_quarries_0 : List UInt8 := [42, 42, 28, 45, 182, 0, 148, 27, 182, 0, 141, 54, 4, 21, 4, 156, 0, 8, 21, 4, 167, 0, 27, 42]
abbrev dktX0_quarries_0 : List UInt8 := dkwX0_quarries_0 ++ dktX0_quarries_1
theorem dksX0_quarries_0 : cX0_quarries.data.toList.drop 0 = dktX0_quarries_0 := by decide +kernel
theorem dksX0_quarries_1 : cX0_quarries.data.toList.drop 24 = dktX0_quarries_1 := dk_seg dksX0_quarries_0 24 rfl rfl
theorem dX0_quarries_0 : decode cX0_quarries 0 = .ok (.aload_n 0, 1) := dk_42 (dk_at dksX0_quarries_0 0 rfl rfl)
theorem dX0_quarries_1 : decode cX0_quarries 1 = .ok (.aload_n 0, 1) := dk_42 (dk_at dksX0_quarries_0 1 rfl rfl)
theorem dX0_quarries_2 : decode cX0_quarries 2 = .ok (.iload_n 2, 1) := dk_28 (dk_at dksX0_quarries_0 2 rfl rfl)
theorem dX0_quarries_3 : decode cX0_quarries 3 = .ok (.aload_n 3, 1) := dk_45 (dk_at dksX0_quarries_0 3 rfl rfl)
theorem dX0_quarries_4 : decode cX0_quarries 4 = .ok (.invokevirtual 148, 3) := dk_182 0 148 (dk_at dksX0_quarries_0 4 rfl rfl)
theorem dX0_quarries_7 : decode cX0_quarries 7 = .ok (.iload_n 1, 1) := dk_27 (dk_at dksX0_quarries_0 7 rfl rfl)
theorem dX0_quarries_8 : decode cX0_quarries 8 = .ok (.invokevirtual 141, 3) := dk_182 0 141 (dk_at dksX0_quarries_0 8 rfl rfl)
theorem dX0_quarries_11 : decode cX0_quarries 11 = .ok (.istore 4, 2) := dk_54 4 (dk_at dksX0_quarries_0 11 rfl rfl)
theorem dX0_quarries_13 : decode cX0_quarries 13 = .ok (.iload 4, 2) := dk_21 4 (dk_at dksX0_quarries_0 13 rfl rfl)
theorem dX0_quarries_15 : decode cX0_quarries 15 = .ok (.ifCond .ge 8, 3) := dk_156 0 8 (dk_at dksX0_quarries_0 15 rfl rfl)
theorem dX0_quarries_18 : decode cX0_quarries 18 = .ok (.iload 4, 2) := dk_21 4 (dk_at dksX0_quarries_0 18 rfl rfl)
theorem dX0_quarries_20 : decode cX0_quarries 20 = .ok (.goto 27, 3) := dk_167 0 27 (dk_at dksX0_quarries_0 20 rfl rfl)
theorem dX0_quarries_23 : decode cX0_quarries 23 = .ok (.aload_n 0, 1) := dk_42 (dk_at dksX0_quarries_0 23 rfl rfl)
theorem dX0_quarries_24 : decode cX0_quarries 24 = .ok (.getfield 16, 3) := dk_180 0 16 (dk_at dksX0_quarries_1 0 rfl rfl)
theorem dX0_quarries_27 : decode cX0_quarries 27 = .ok (.new 152, 3) := dk_187 0 152 (dk_at dksX0_quarries_1 3 rfl rfl)
theorem dX0_quarries_30 : decode cX0_quarries 30 = .ok (.dup, 1) := dk_89 (dk_at dksX0_quarries_1 6 rfl rfl)
theorem dX0_quarries_31 : decode cX0_quarries 31 = .ok (.aload_n 3, 1) := dk_45 (dk_at dksX0_quarries_1 7 rfl rfl)
theorem dX0_quarries_32 : decode cX0_quarries 32 = .ok (.iconst 0, 1) := dk_3 (dk_at dksX0_quarries_1 8 rfl rfl)
theorem dX0_quarries_33 : decode cX0_quarries 33 = .ok (.iaload, 1) := dk_46 (dk_at dksX0_quarries_1 9 rfl rfl)
theorem dX0_quarries_34 : decode cX0_quarries 34 = .ok (.aload_n 3, 1) := dk_45 (dk_at dksX0_quarries_1 10 rfl rfl)
theorem dX0_quarries_35 : decode cX0_quarries 35 = .ok (.iconst 1, 1) := dk_4 (dk_at dksX0_quarries_1 11 rfl rfl)
theorem dX0_quarries_36 : decode cX0_quarries 36 = .ok (.iaload, 1) := dk_46 (dk_at dksX0_quarries_1 12 rfl rfl)
theorem dX0_quarries_37 : decode cX0_quarries 37 = .ok (.aload_n 3, 1) := dk_45 (dk_at dksX0_quarries_1 13 rfl rfl)
theorem dX0_quarries_38 : decode cX0_quarries 38 = .ok (.iconst 2, 1) := dk_5 (dk_at dksX0_quarries_1 14 rfl rfl)
theorem dX0_quarries_39 : decode cX0_quarries 39 = .ok (.iaload, 1) := dk_46 (dk_at dksX0_quarries_1 15 rfl rfl)
theorem dX0_quarries_40 : decode cX0_quarries 40 = .ok (.invokespecial 154, 3) := dk_183 0 154 (dk_at dksX0_quarries_1 16 rfl rfl)
theorem dX0_quarries_43 : decode cX0_quarries 43 = .ok (.iload_n 2, 1) := dk_28 (dk_at dksX0_quarries_1 19 rfl rfl)
theorem dX0_quarries_44 : decode cX0_quarries 44 = .ok (.invokevirtual 157, 3) := dk_182 0 157 (dk_at dksX0_quarries_1 20 rfl rfl)
theorem dX0_quarries_47 : decode cX0_quarries 47 = .ok (.ireturn, 1) := dk_172 (dk_at dksX0_quarries_1 23 rfl rfl)
abbrev cX0_whyNotQuarry : ByteArray := prog_1_method_11_code
def yX0_whyNotQuarry : MethodName := ⟨RX0, "whyNotQuarry", "(I[I)I"⟩
def dkwX0_whyNotQuarry_2 : List UInt8 := [160, 0, 8, 16, 252, 167, 0, 4, 3, 172]
abbrev dktX0_whyNotQuarry_2 : List UInt8 := dkwX0_whyNotQuarry_2 ++ []
def dkwX0_whyNotQuarry_1 : List UInt8 := [29, 154, 0, 8, 16, 254, 167, 0, 26, 42, 180, 0, 16, 180, 0, 56, 185, 0, 38, 1, 0, 16, 24]
abbrev dktX0_whyNotQuarry_1 : List UInt8 := dkwX0_whyNotQuarry_1 ++ dktX0_whyNotQuarry_2
def dkwX0_whyNotQuarry_0 : List UInt8 := [44, 184, 0, 72, 153, 0, 18, 27, 16, 20, 16, 30, 184, 0, 3, 153, 0, 7, 4, 167, 0, 4, 3, 62]
abbrev dktX0_whyNotQuarry_0 : List UInt8 := dkwX0_whyNotQuarry_0 ++ dktX0_whyNotQuarry_1
theorem dksX0_whyNotQuarry_0 : cX0_whyNotQuarry.data.toList.drop 0 = dktX0_whyNotQuarry_0 := by decide +kernel
theorem dksX0_whyNotQuarry_1 : cX0_whyNotQuarry.data.toList.drop 24 = dktX0_whyNotQuarry_1 := dk_seg dksX0_whyNotQuarry_0 24 rfl rfl
theorem dksX0_whyNotQuarry_2 : cX0_whyNotQuarry.data.toList.drop 47 = dktX0_whyNotQuarry_2 := dk_seg dksX0_whyNotQuarry_1 23 rfl rfl
theorem dX0_whyNotQuarry_0 : decode cX0_whyNotQuarry 0 = .ok (.aload_n 2, 1) := dk_44 (dk_at dksX0_whyNotQuarry_0 0 rfl rfl)
theorem dX0_whyNotQuarry_1 : decode cX0_whyNotQuarry 1 = .ok (.invokestatic 72, 3) := dk_184 0 72 (dk_at dksX0_whyNotQuarry_0 1 rfl rfl)
theorem dX0_whyNotQuarry_4 : decode cX0_whyNotQuarry 4 = .ok (.ifCond .eq 18, 3) := dk_153 0 18 (dk_at dksX0_whyNotQuarry_0 4 rfl rfl)
theorem dX0_whyNotQuarry_7 : decode cX0_whyNotQuarry 7 = .ok (.iload_n 1, 1) := dk_27 (dk_at dksX0_whyNotQuarry_0 7 rfl rfl)
theorem dX0_whyNotQuarry_8 : decode cX0_whyNotQuarry 8 = .ok (.bipush 20, 2) := dk_16 20 (dk_at dksX0_whyNotQuarry_0 8 rfl rfl)
theorem dX0_whyNotQuarry_10 : decode cX0_whyNotQuarry 10 = .ok (.bipush 30, 2) := dk_16 30 (dk_at dksX0_whyNotQuarry_0 10 rfl rfl)
theorem dX0_whyNotQuarry_12 : decode cX0_whyNotQuarry 12 = .ok (.invokestatic 3, 3) := dk_184 0 3 (dk_at dksX0_whyNotQuarry_0 12 rfl rfl)
theorem dX0_whyNotQuarry_15 : decode cX0_whyNotQuarry 15 = .ok (.ifCond .eq 7, 3) := dk_153 0 7 (dk_at dksX0_whyNotQuarry_0 15 rfl rfl)
theorem dX0_whyNotQuarry_18 : decode cX0_whyNotQuarry 18 = .ok (.iconst 1, 1) := dk_4 (dk_at dksX0_whyNotQuarry_0 18 rfl rfl)
theorem dX0_whyNotQuarry_19 : decode cX0_whyNotQuarry 19 = .ok (.goto 4, 3) := dk_167 0 4 (dk_at dksX0_whyNotQuarry_0 19 rfl rfl)
theorem dX0_whyNotQuarry_22 : decode cX0_whyNotQuarry 22 = .ok (.iconst 0, 1) := dk_3 (dk_at dksX0_whyNotQuarry_0 22 rfl rfl)
theorem dX0_whyNotQuarry_23 : decode cX0_whyNotQuarry 23 = .ok (.istore_n 3, 1) := dk_62 (dk_at dksX0_whyNotQuarry_0 23 rfl rfl)
theorem dX0_whyNotQuarry_24 : decode cX0_whyNotQuarry 24 = .ok (.iload_n 3, 1) := dk_29 (dk_at dksX0_whyNotQuarry_1 0 rfl rfl)
theorem dX0_whyNotQuarry_25 : decode cX0_whyNotQuarry 25 = .ok (.ifCond .ne 8, 3) := dk_154 0 8 (dk_at dksX0_whyNotQuarry_1 1 rfl rfl)
theorem dX0_whyNotQuarry_28 : decode cX0_whyNotQuarry 28 = .ok (.bipush (-2), 2) := dk_16 254 (dk_at dksX0_whyNotQuarry_1 4 rfl rfl)
theorem dX0_whyNotQuarry_30 : decode cX0_whyNotQuarry 30 = .ok (.goto 26, 3) := dk_167 0 26 (dk_at dksX0_whyNotQuarry_1 6 rfl rfl)
theorem dX0_whyNotQuarry_33 : decode cX0_whyNotQuarry 33 = .ok (.aload_n 0, 1) := dk_42 (dk_at dksX0_whyNotQuarry_1 9 rfl rfl)
theorem dX0_whyNotQuarry_34 : decode cX0_whyNotQuarry 34 = .ok (.getfield 16, 3) := dk_180 0 16 (dk_at dksX0_whyNotQuarry_1 10 rfl rfl)
theorem dX0_whyNotQuarry_37 : decode cX0_whyNotQuarry 37 = .ok (.getfield 56, 3) := dk_180 0 56 (dk_at dksX0_whyNotQuarry_1 13 rfl rfl)
theorem dX0_whyNotQuarry_40 : decode cX0_whyNotQuarry 40 = .ok (.invokeinterface 38 1, 5) := by decide +kernel
theorem dX0_whyNotQuarry_45 : decode cX0_whyNotQuarry 45 = .ok (.bipush 24, 2) := dk_16 24 (dk_at dksX0_whyNotQuarry_1 21 rfl rfl)
theorem dX0_whyNotQuarry_47 : decode cX0_whyNotQuarry 47 = .ok (.if_icmp .ne 8, 3) := dk_160 0 8 (dk_at dksX0_whyNotQuarry_2 0 rfl rfl)
theorem dX0_whyNotQuarry_50 : decode cX0_whyNotQuarry 50 = .ok (.bipush (-4), 2) := dk_16 252 (dk_at dksX0_whyNotQuarry_2 3 rfl rfl)
theorem dX0_whyNotQuarry_52 : decode cX0_whyNotQuarry 52 = .ok (.goto 4, 3) := dk_167 0 4 (dk_at dksX0_whyNotQuarry_2 5 rfl rfl)
theorem dX0_whyNotQuarry_55 : decode cX0_whyNotQuarry 55 = .ok (.iconst 0, 1) := dk_3 (dk_at dksX0_whyNotQuarry_2 8 rfl rfl)
theorem dX0_whyNotQuarry_56 : decode cX0_whyNotQuarry 56 = .ok (.ireturn, 1) := dk_172 (dk_at dksX0_whyNotQuarry_2 9 rfl rfl)
abbrev cX0_areSizes : ByteArray := prog_1_method_2_code
def yX0_areSizes : MethodName := ⟨RX0, "areSizes", "([I)Z"⟩
def dkwX0_areSizes_1 : List UInt8 := [21, 5, 4, 17, 1, 44, 184, 0, 3, 126, 60, 132, 4, 1, 167, 255, 229, 27, 172]
abbrev dktX0_areSizes_1 : List UInt8 := dkwX0_areSizes_1 ++ []
def dkwX0_areSizes_0 : List UInt8 := [4, 60, 42, 77, 44, 190, 62, 3, 54, 4, 21, 4, 29, 162, 0, 27, 44, 21, 4, 46, 54, 5, 27]
abbrev dktX0_areSizes_0 : List UInt8 := dkwX0_areSizes_0 ++ dktX0_areSizes_1
theorem dksX0_areSizes_0 : cX0_areSizes.data.toList.drop 0 = dktX0_areSizes_0 := by decide +kernel
theorem dksX0_areSizes_1 : cX0_areSizes.data.toList.drop 23 = dktX0_areSizes_1 := dk_seg dksX0_areSizes_0 23 rfl rfl
theorem dX0_areSizes_0 : decode cX0_areSizes 0 = .ok (.iconst 1, 1) := dk_4 (dk_at dksX0_areSizes_0 0 rfl rfl)
theorem dX0_areSizes_1 : decode cX0_areSizes 1 = .ok (.istore_n 1, 1) := dk_60 (dk_at dksX0_areSizes_0 1 rfl rfl)
theorem dX0_areSizes_2 : decode cX0_areSizes 2 = .ok (.aload_n 0, 1) := dk_42 (dk_at dksX0_areSizes_0 2 rfl rfl)
theorem dX0_areSizes_3 : decode cX0_areSizes 3 = .ok (.astore_n 2, 1) := dk_77 (dk_at dksX0_areSizes_0 3 rfl rfl)
theorem dX0_areSizes_4 : decode cX0_areSizes 4 = .ok (.aload_n 2, 1) := dk_44 (dk_at dksX0_areSizes_0 4 rfl rfl)
theorem dX0_areSizes_5 : decode cX0_areSizes 5 = .ok (.arraylength, 1) := dk_190 (dk_at dksX0_areSizes_0 5 rfl rfl)
theorem dX0_areSizes_6 : decode cX0_areSizes 6 = .ok (.istore_n 3, 1) := dk_62 (dk_at dksX0_areSizes_0 6 rfl rfl)
theorem dX0_areSizes_7 : decode cX0_areSizes 7 = .ok (.iconst 0, 1) := dk_3 (dk_at dksX0_areSizes_0 7 rfl rfl)
theorem dX0_areSizes_8 : decode cX0_areSizes 8 = .ok (.istore 4, 2) := dk_54 4 (dk_at dksX0_areSizes_0 8 rfl rfl)
theorem dX0_areSizes_10 : decode cX0_areSizes 10 = .ok (.iload 4, 2) := dk_21 4 (dk_at dksX0_areSizes_0 10 rfl rfl)
theorem dX0_areSizes_12 : decode cX0_areSizes 12 = .ok (.iload_n 3, 1) := dk_29 (dk_at dksX0_areSizes_0 12 rfl rfl)
theorem dX0_areSizes_13 : decode cX0_areSizes 13 = .ok (.if_icmp .ge 27, 3) := dk_162 0 27 (dk_at dksX0_areSizes_0 13 rfl rfl)
theorem dX0_areSizes_16 : decode cX0_areSizes 16 = .ok (.aload_n 2, 1) := dk_44 (dk_at dksX0_areSizes_0 16 rfl rfl)
theorem dX0_areSizes_17 : decode cX0_areSizes 17 = .ok (.iload 4, 2) := dk_21 4 (dk_at dksX0_areSizes_0 17 rfl rfl)
theorem dX0_areSizes_19 : decode cX0_areSizes 19 = .ok (.iaload, 1) := dk_46 (dk_at dksX0_areSizes_0 19 rfl rfl)
theorem dX0_areSizes_20 : decode cX0_areSizes 20 = .ok (.istore 5, 2) := dk_54 5 (dk_at dksX0_areSizes_0 20 rfl rfl)
theorem dX0_areSizes_22 : decode cX0_areSizes 22 = .ok (.iload_n 1, 1) := dk_27 (dk_at dksX0_areSizes_0 22 rfl rfl)
theorem dX0_areSizes_23 : decode cX0_areSizes 23 = .ok (.iload 5, 2) := dk_21 5 (dk_at dksX0_areSizes_1 0 rfl rfl)
theorem dX0_areSizes_25 : decode cX0_areSizes 25 = .ok (.iconst 1, 1) := dk_4 (dk_at dksX0_areSizes_1 2 rfl rfl)
theorem dX0_areSizes_26 : decode cX0_areSizes 26 = .ok (.sipush 300, 3) := dk_17 1 44 (dk_at dksX0_areSizes_1 3 rfl rfl)
theorem dX0_areSizes_29 : decode cX0_areSizes 29 = .ok (.invokestatic 3, 3) := dk_184 0 3 (dk_at dksX0_areSizes_1 6 rfl rfl)
theorem dX0_areSizes_32 : decode cX0_areSizes 32 = .ok (.iand, 1) := dk_126 (dk_at dksX0_areSizes_1 9 rfl rfl)
theorem dX0_areSizes_33 : decode cX0_areSizes 33 = .ok (.istore_n 1, 1) := dk_60 (dk_at dksX0_areSizes_1 10 rfl rfl)
theorem dX0_areSizes_34 : decode cX0_areSizes 34 = .ok (.iinc 4 1, 3) := dk_132 4 1 (dk_at dksX0_areSizes_1 11 rfl rfl)
theorem dX0_areSizes_37 : decode cX0_areSizes 37 = .ok (.goto (-27), 3) := dk_167 255 229 (dk_at dksX0_areSizes_1 14 rfl rfl)
theorem dX0_areSizes_40 : decode cX0_areSizes 40 = .ok (.iload_n 1, 1) := dk_27 (dk_at dksX0_areSizes_1 17 rfl rfl)
theorem dX0_areSizes_41 : decode cX0_areSizes 41 = .ok (.ireturn, 1) := dk_172 (dk_at dksX0_areSizes_1 18 rfl rfl)
abbrev cX0_cut : ByteArray := prog_1_method_23_code
def yX0_cut : MethodName := ⟨RX0, "cut", "(III)I"⟩
def dkwX0_cut_0 : List UInt8 := [42, 27, 28, 29, 4, 182, 0, 173, 172]
abbrev dktX0_cut_0 : List UInt8 := dkwX0_cut_0 ++ []
theorem dksX0_cut_0 : cX0_cut.data.toList.drop 0 = dktX0_cut_0 := by decide +kernel
theorem dX0_cut_0 : decode cX0_cut 0 = .ok (.aload_n 0, 1) := dk_42 (dk_at dksX0_cut_0 0 rfl rfl)
theorem dX0_cut_1 : decode cX0_cut 1 = .ok (.iload_n 1, 1) := dk_27 (dk_at dksX0_cut_0 1 rfl rfl)
theorem dX0_cut_2 : decode cX0_cut 2 = .ok (.iload_n 2, 1) := dk_28 (dk_at dksX0_cut_0 2 rfl rfl)
theorem dX0_cut_3 : decode cX0_cut 3 = .ok (.iload_n 3, 1) := dk_29 (dk_at dksX0_cut_0 3 rfl rfl)
theorem dX0_cut_4 : decode cX0_cut 4 = .ok (.iconst 1, 1) := dk_4 (dk_at dksX0_cut_0 4 rfl rfl)
theorem dX0_cut_5 : decode cX0_cut 5 = .ok (.invokevirtual 173, 3) := dk_182 0 173 (dk_at dksX0_cut_0 5 rfl rfl)
theorem dX0_cut_8 : decode cX0_cut 8 = .ok (.ireturn, 1) := dk_172 (dk_at dksX0_cut_0 8 rfl rfl)
abbrev cX0_cuts : ByteArray := prog_1_method_22_code
def yX0_cuts : MethodName := ⟨RX0, "cuts", "(IIIZ)I"⟩
def dkwX0_cuts_1 : List UInt8 := [167, 0, 17, 42, 180, 0, 16, 42, 27, 182, 0, 92, 28, 29, 182, 0, 169, 172]
abbrev dktX0_cuts_1 : List UInt8 := dkwX0_cuts_1 ++ []
def dkwX0_cuts_0 : List UInt8 := [42, 42, 27, 28, 29, 182, 0, 165, 21, 4, 182, 0, 141, 54, 5, 21, 5, 156, 0, 8, 21, 5]
abbrev dktX0_cuts_0 : List UInt8 := dkwX0_cuts_0 ++ dktX0_cuts_1
theorem dksX0_cuts_0 : cX0_cuts.data.toList.drop 0 = dktX0_cuts_0 := by decide +kernel
theorem dksX0_cuts_1 : cX0_cuts.data.toList.drop 22 = dktX0_cuts_1 := dk_seg dksX0_cuts_0 22 rfl rfl
theorem dX0_cuts_0 : decode cX0_cuts 0 = .ok (.aload_n 0, 1) := dk_42 (dk_at dksX0_cuts_0 0 rfl rfl)
theorem dX0_cuts_1 : decode cX0_cuts 1 = .ok (.aload_n 0, 1) := dk_42 (dk_at dksX0_cuts_0 1 rfl rfl)
theorem dX0_cuts_2 : decode cX0_cuts 2 = .ok (.iload_n 1, 1) := dk_27 (dk_at dksX0_cuts_0 2 rfl rfl)
theorem dX0_cuts_3 : decode cX0_cuts 3 = .ok (.iload_n 2, 1) := dk_28 (dk_at dksX0_cuts_0 3 rfl rfl)
theorem dX0_cuts_4 : decode cX0_cuts 4 = .ok (.iload_n 3, 1) := dk_29 (dk_at dksX0_cuts_0 4 rfl rfl)
theorem dX0_cuts_5 : decode cX0_cuts 5 = .ok (.invokevirtual 165, 3) := dk_182 0 165 (dk_at dksX0_cuts_0 5 rfl rfl)
theorem dX0_cuts_8 : decode cX0_cuts 8 = .ok (.iload 4, 2) := dk_21 4 (dk_at dksX0_cuts_0 8 rfl rfl)
theorem dX0_cuts_10 : decode cX0_cuts 10 = .ok (.invokevirtual 141, 3) := dk_182 0 141 (dk_at dksX0_cuts_0 10 rfl rfl)
theorem dX0_cuts_13 : decode cX0_cuts 13 = .ok (.istore 5, 2) := dk_54 5 (dk_at dksX0_cuts_0 13 rfl rfl)
theorem dX0_cuts_15 : decode cX0_cuts 15 = .ok (.iload 5, 2) := dk_21 5 (dk_at dksX0_cuts_0 15 rfl rfl)
theorem dX0_cuts_17 : decode cX0_cuts 17 = .ok (.ifCond .ge 8, 3) := dk_156 0 8 (dk_at dksX0_cuts_0 17 rfl rfl)
theorem dX0_cuts_20 : decode cX0_cuts 20 = .ok (.iload 5, 2) := dk_21 5 (dk_at dksX0_cuts_0 20 rfl rfl)
theorem dX0_cuts_22 : decode cX0_cuts 22 = .ok (.goto 17, 3) := dk_167 0 17 (dk_at dksX0_cuts_1 0 rfl rfl)
theorem dX0_cuts_25 : decode cX0_cuts 25 = .ok (.aload_n 0, 1) := dk_42 (dk_at dksX0_cuts_1 3 rfl rfl)
theorem dX0_cuts_26 : decode cX0_cuts 26 = .ok (.getfield 16, 3) := dk_180 0 16 (dk_at dksX0_cuts_1 4 rfl rfl)
theorem dX0_cuts_29 : decode cX0_cuts 29 = .ok (.aload_n 0, 1) := dk_42 (dk_at dksX0_cuts_1 7 rfl rfl)
theorem dX0_cuts_30 : decode cX0_cuts 30 = .ok (.iload_n 1, 1) := dk_27 (dk_at dksX0_cuts_1 8 rfl rfl)
theorem dX0_cuts_31 : decode cX0_cuts 31 = .ok (.invokevirtual 92, 3) := dk_182 0 92 (dk_at dksX0_cuts_1 9 rfl rfl)
theorem dX0_cuts_34 : decode cX0_cuts 34 = .ok (.iload_n 2, 1) := dk_28 (dk_at dksX0_cuts_1 12 rfl rfl)
theorem dX0_cuts_35 : decode cX0_cuts 35 = .ok (.iload_n 3, 1) := dk_29 (dk_at dksX0_cuts_1 13 rfl rfl)
theorem dX0_cuts_36 : decode cX0_cuts 36 = .ok (.invokevirtual 169, 3) := dk_182 0 169 (dk_at dksX0_cuts_1 14 rfl rfl)
theorem dX0_cuts_39 : decode cX0_cuts 39 = .ok (.ireturn, 1) := dk_172 (dk_at dksX0_cuts_1 17 rfl rfl)
abbrev cX0_whyNotCut : ByteArray := prog_1_method_13_code
def yX0_whyNotCut : MethodName := ⟨RX0, "whyNotCut", "(III)I"⟩
def dkwX0_whyNotCut_4 : List UInt8 := [16, 24, 164, 0, 8, 16, 252, 167, 0, 4, 3, 172]
abbrev dktX0_whyNotCut_4 : List UInt8 := dkwX0_whyNotCut_4 ++ []
def dkwX0_whyNotCut_3 : List UInt8 := [21, 4, 154, 0, 8, 16, 251, 167, 0, 28, 42, 180, 0, 16, 180, 0, 56, 185, 0, 38, 1, 0, 5, 96]
abbrev dktX0_whyNotCut_3 : List UInt8 := dkwX0_whyNotCut_3 ++ dktX0_whyNotCut_4
def dkwX0_whyNotCut_2 : List UInt8 := [180, 0, 16, 42, 27, 182, 0, 92, 28, 29, 182, 0, 100, 153, 0, 7, 4, 167, 0, 4, 3, 54, 4]
abbrev dktX0_whyNotCut_2 : List UInt8 := dkwX0_whyNotCut_2 ++ dktX0_whyNotCut_3
def dkwX0_whyNotCut_1 : List UInt8 := [184, 0, 3, 154, 0, 6, 16, 254, 172, 42, 42, 27, 182, 0, 92, 182, 0, 96, 153, 0, 24, 42]
abbrev dktX0_whyNotCut_1 : List UInt8 := dkwX0_whyNotCut_1 ++ dktX0_whyNotCut_2
def dkwX0_whyNotCut_0 : List UInt8 := [42, 27, 182, 0, 88, 154, 0, 5, 2, 172, 28, 3, 5, 184, 0, 3, 153, 0, 14, 29, 4, 17, 1, 44]
abbrev dktX0_whyNotCut_0 : List UInt8 := dkwX0_whyNotCut_0 ++ dktX0_whyNotCut_1
theorem dksX0_whyNotCut_0 : cX0_whyNotCut.data.toList.drop 0 = dktX0_whyNotCut_0 := by decide +kernel
theorem dksX0_whyNotCut_1 : cX0_whyNotCut.data.toList.drop 24 = dktX0_whyNotCut_1 := dk_seg dksX0_whyNotCut_0 24 rfl rfl
theorem dksX0_whyNotCut_2 : cX0_whyNotCut.data.toList.drop 46 = dktX0_whyNotCut_2 := dk_seg dksX0_whyNotCut_1 22 rfl rfl
theorem dksX0_whyNotCut_3 : cX0_whyNotCut.data.toList.drop 69 = dktX0_whyNotCut_3 := dk_seg dksX0_whyNotCut_2 23 rfl rfl
theorem dksX0_whyNotCut_4 : cX0_whyNotCut.data.toList.drop 93 = dktX0_whyNotCut_4 := dk_seg dksX0_whyNotCut_3 24 rfl rfl
theorem dX0_whyNotCut_0 : decode cX0_whyNotCut 0 = .ok (.aload_n 0, 1) := dk_42 (dk_at dksX0_whyNotCut_0 0 rfl rfl)
theorem dX0_whyNotCut_1 : decode cX0_whyNotCut 1 = .ok (.iload_n 1, 1) := dk_27 (dk_at dksX0_whyNotCut_0 1 rfl rfl)
theorem dX0_whyNotCut_2 : decode cX0_whyNotCut 2 = .ok (.invokevirtual 88, 3) := dk_182 0 88 (dk_at dksX0_whyNotCut_0 2 rfl rfl)
theorem dX0_whyNotCut_5 : decode cX0_whyNotCut 5 = .ok (.ifCond .ne 5, 3) := dk_154 0 5 (dk_at dksX0_whyNotCut_0 5 rfl rfl)
theorem dX0_whyNotCut_8 : decode cX0_whyNotCut 8 = .ok (.iconst (-1), 1) := dk_2 (dk_at dksX0_whyNotCut_0 8 rfl rfl)
theorem dX0_whyNotCut_9 : decode cX0_whyNotCut 9 = .ok (.ireturn, 1) := dk_172 (dk_at dksX0_whyNotCut_0 9 rfl rfl)
theorem dX0_whyNotCut_10 : decode cX0_whyNotCut 10 = .ok (.iload_n 2, 1) := dk_28 (dk_at dksX0_whyNotCut_0 10 rfl rfl)
theorem dX0_whyNotCut_11 : decode cX0_whyNotCut 11 = .ok (.iconst 0, 1) := dk_3 (dk_at dksX0_whyNotCut_0 11 rfl rfl)
theorem dX0_whyNotCut_12 : decode cX0_whyNotCut 12 = .ok (.iconst 2, 1) := dk_5 (dk_at dksX0_whyNotCut_0 12 rfl rfl)
theorem dX0_whyNotCut_13 : decode cX0_whyNotCut 13 = .ok (.invokestatic 3, 3) := dk_184 0 3 (dk_at dksX0_whyNotCut_0 13 rfl rfl)
theorem dX0_whyNotCut_16 : decode cX0_whyNotCut 16 = .ok (.ifCond .eq 14, 3) := dk_153 0 14 (dk_at dksX0_whyNotCut_0 16 rfl rfl)
theorem dX0_whyNotCut_19 : decode cX0_whyNotCut 19 = .ok (.iload_n 3, 1) := dk_29 (dk_at dksX0_whyNotCut_0 19 rfl rfl)
theorem dX0_whyNotCut_20 : decode cX0_whyNotCut 20 = .ok (.iconst 1, 1) := dk_4 (dk_at dksX0_whyNotCut_0 20 rfl rfl)
theorem dX0_whyNotCut_21 : decode cX0_whyNotCut 21 = .ok (.sipush 300, 3) := dk_17 1 44 (dk_at dksX0_whyNotCut_0 21 rfl rfl)
theorem dX0_whyNotCut_24 : decode cX0_whyNotCut 24 = .ok (.invokestatic 3, 3) := dk_184 0 3 (dk_at dksX0_whyNotCut_1 0 rfl rfl)
theorem dX0_whyNotCut_27 : decode cX0_whyNotCut 27 = .ok (.ifCond .ne 6, 3) := dk_154 0 6 (dk_at dksX0_whyNotCut_1 3 rfl rfl)
theorem dX0_whyNotCut_30 : decode cX0_whyNotCut 30 = .ok (.bipush (-2), 2) := dk_16 254 (dk_at dksX0_whyNotCut_1 6 rfl rfl)
theorem dX0_whyNotCut_32 : decode cX0_whyNotCut 32 = .ok (.ireturn, 1) := dk_172 (dk_at dksX0_whyNotCut_1 8 rfl rfl)
theorem dX0_whyNotCut_33 : decode cX0_whyNotCut 33 = .ok (.aload_n 0, 1) := dk_42 (dk_at dksX0_whyNotCut_1 9 rfl rfl)
theorem dX0_whyNotCut_34 : decode cX0_whyNotCut 34 = .ok (.aload_n 0, 1) := dk_42 (dk_at dksX0_whyNotCut_1 10 rfl rfl)
theorem dX0_whyNotCut_35 : decode cX0_whyNotCut 35 = .ok (.iload_n 1, 1) := dk_27 (dk_at dksX0_whyNotCut_1 11 rfl rfl)
theorem dX0_whyNotCut_36 : decode cX0_whyNotCut 36 = .ok (.invokevirtual 92, 3) := dk_182 0 92 (dk_at dksX0_whyNotCut_1 12 rfl rfl)
theorem dX0_whyNotCut_39 : decode cX0_whyNotCut 39 = .ok (.invokevirtual 96, 3) := dk_182 0 96 (dk_at dksX0_whyNotCut_1 15 rfl rfl)
theorem dX0_whyNotCut_42 : decode cX0_whyNotCut 42 = .ok (.ifCond .eq 24, 3) := dk_153 0 24 (dk_at dksX0_whyNotCut_1 18 rfl rfl)
theorem dX0_whyNotCut_45 : decode cX0_whyNotCut 45 = .ok (.aload_n 0, 1) := dk_42 (dk_at dksX0_whyNotCut_1 21 rfl rfl)
theorem dX0_whyNotCut_46 : decode cX0_whyNotCut 46 = .ok (.getfield 16, 3) := dk_180 0 16 (dk_at dksX0_whyNotCut_2 0 rfl rfl)
theorem dX0_whyNotCut_49 : decode cX0_whyNotCut 49 = .ok (.aload_n 0, 1) := dk_42 (dk_at dksX0_whyNotCut_2 3 rfl rfl)
theorem dX0_whyNotCut_50 : decode cX0_whyNotCut 50 = .ok (.iload_n 1, 1) := dk_27 (dk_at dksX0_whyNotCut_2 4 rfl rfl)
theorem dX0_whyNotCut_51 : decode cX0_whyNotCut 51 = .ok (.invokevirtual 92, 3) := dk_182 0 92 (dk_at dksX0_whyNotCut_2 5 rfl rfl)
theorem dX0_whyNotCut_54 : decode cX0_whyNotCut 54 = .ok (.iload_n 2, 1) := dk_28 (dk_at dksX0_whyNotCut_2 8 rfl rfl)
theorem dX0_whyNotCut_55 : decode cX0_whyNotCut 55 = .ok (.iload_n 3, 1) := dk_29 (dk_at dksX0_whyNotCut_2 9 rfl rfl)
theorem dX0_whyNotCut_56 : decode cX0_whyNotCut 56 = .ok (.invokevirtual 100, 3) := dk_182 0 100 (dk_at dksX0_whyNotCut_2 10 rfl rfl)
theorem dX0_whyNotCut_59 : decode cX0_whyNotCut 59 = .ok (.ifCond .eq 7, 3) := dk_153 0 7 (dk_at dksX0_whyNotCut_2 13 rfl rfl)
theorem dX0_whyNotCut_62 : decode cX0_whyNotCut 62 = .ok (.iconst 1, 1) := dk_4 (dk_at dksX0_whyNotCut_2 16 rfl rfl)
theorem dX0_whyNotCut_63 : decode cX0_whyNotCut 63 = .ok (.goto 4, 3) := dk_167 0 4 (dk_at dksX0_whyNotCut_2 17 rfl rfl)
theorem dX0_whyNotCut_66 : decode cX0_whyNotCut 66 = .ok (.iconst 0, 1) := dk_3 (dk_at dksX0_whyNotCut_2 20 rfl rfl)
theorem dX0_whyNotCut_67 : decode cX0_whyNotCut 67 = .ok (.istore 4, 2) := dk_54 4 (dk_at dksX0_whyNotCut_2 21 rfl rfl)
theorem dX0_whyNotCut_69 : decode cX0_whyNotCut 69 = .ok (.iload 4, 2) := dk_21 4 (dk_at dksX0_whyNotCut_3 0 rfl rfl)
theorem dX0_whyNotCut_71 : decode cX0_whyNotCut 71 = .ok (.ifCond .ne 8, 3) := dk_154 0 8 (dk_at dksX0_whyNotCut_3 2 rfl rfl)
theorem dX0_whyNotCut_74 : decode cX0_whyNotCut 74 = .ok (.bipush (-5), 2) := dk_16 251 (dk_at dksX0_whyNotCut_3 5 rfl rfl)
theorem dX0_whyNotCut_76 : decode cX0_whyNotCut 76 = .ok (.goto 28, 3) := dk_167 0 28 (dk_at dksX0_whyNotCut_3 7 rfl rfl)
theorem dX0_whyNotCut_79 : decode cX0_whyNotCut 79 = .ok (.aload_n 0, 1) := dk_42 (dk_at dksX0_whyNotCut_3 10 rfl rfl)
theorem dX0_whyNotCut_80 : decode cX0_whyNotCut 80 = .ok (.getfield 16, 3) := dk_180 0 16 (dk_at dksX0_whyNotCut_3 11 rfl rfl)
theorem dX0_whyNotCut_83 : decode cX0_whyNotCut 83 = .ok (.getfield 56, 3) := dk_180 0 56 (dk_at dksX0_whyNotCut_3 14 rfl rfl)
theorem dX0_whyNotCut_86 : decode cX0_whyNotCut 86 = .ok (.invokeinterface 38 1, 5) := by decide +kernel
theorem dX0_whyNotCut_91 : decode cX0_whyNotCut 91 = .ok (.iconst 2, 1) := dk_5 (dk_at dksX0_whyNotCut_3 22 rfl rfl)
theorem dX0_whyNotCut_92 : decode cX0_whyNotCut 92 = .ok (.iadd, 1) := dk_96 (dk_at dksX0_whyNotCut_3 23 rfl rfl)
theorem dX0_whyNotCut_93 : decode cX0_whyNotCut 93 = .ok (.bipush 24, 2) := dk_16 24 (dk_at dksX0_whyNotCut_4 0 rfl rfl)
theorem dX0_whyNotCut_95 : decode cX0_whyNotCut 95 = .ok (.if_icmp .le 8, 3) := dk_164 0 8 (dk_at dksX0_whyNotCut_4 2 rfl rfl)
theorem dX0_whyNotCut_98 : decode cX0_whyNotCut 98 = .ok (.bipush (-4), 2) := dk_16 252 (dk_at dksX0_whyNotCut_4 5 rfl rfl)
theorem dX0_whyNotCut_100 : decode cX0_whyNotCut 100 = .ok (.goto 4, 3) := dk_167 0 4 (dk_at dksX0_whyNotCut_4 7 rfl rfl)
theorem dX0_whyNotCut_103 : decode cX0_whyNotCut 103 = .ok (.iconst 0, 1) := dk_3 (dk_at dksX0_whyNotCut_4 10 rfl rfl)
theorem dX0_whyNotCut_104 : decode cX0_whyNotCut 104 = .ok (.ireturn, 1) := dk_172 (dk_at dksX0_whyNotCut_4 11 rfl rfl)
abbrev cX0_isBlock : ByteArray := prog_1_method_5_code
def yX0_isBlock : MethodName := ⟨RX0, "isBlock", "(I)Z"⟩
def dkwX0_isBlock_0 : List UInt8 := [27, 3, 42, 180, 0, 16, 180, 0, 56, 185, 0, 38, 1, 0, 4, 100, 184, 0, 3, 172]
abbrev dktX0_isBlock_0 : List UInt8 := dkwX0_isBlock_0 ++ []
theorem dksX0_isBlock_0 : cX0_isBlock.data.toList.drop 0 = dktX0_isBlock_0 := by decide +kernel
theorem dX0_isBlock_0 : decode cX0_isBlock 0 = .ok (.iload_n 1, 1) := dk_27 (dk_at dksX0_isBlock_0 0 rfl rfl)
theorem dX0_isBlock_1 : decode cX0_isBlock 1 = .ok (.iconst 0, 1) := dk_3 (dk_at dksX0_isBlock_0 1 rfl rfl)
theorem dX0_isBlock_2 : decode cX0_isBlock 2 = .ok (.aload_n 0, 1) := dk_42 (dk_at dksX0_isBlock_0 2 rfl rfl)
theorem dX0_isBlock_3 : decode cX0_isBlock 3 = .ok (.getfield 16, 3) := dk_180 0 16 (dk_at dksX0_isBlock_0 3 rfl rfl)
theorem dX0_isBlock_6 : decode cX0_isBlock 6 = .ok (.getfield 56, 3) := dk_180 0 56 (dk_at dksX0_isBlock_0 6 rfl rfl)
theorem dX0_isBlock_9 : decode cX0_isBlock 9 = .ok (.invokeinterface 38 1, 5) := by decide +kernel
theorem dX0_isBlock_14 : decode cX0_isBlock 14 = .ok (.iconst 1, 1) := dk_4 (dk_at dksX0_isBlock_0 14 rfl rfl)
theorem dX0_isBlock_15 : decode cX0_isBlock 15 = .ok (.isub, 1) := dk_100 (dk_at dksX0_isBlock_0 15 rfl rfl)
theorem dX0_isBlock_16 : decode cX0_isBlock 16 = .ok (.invokestatic 3, 3) := dk_184 0 3 (dk_at dksX0_isBlock_0 16 rfl rfl)
theorem dX0_isBlock_19 : decode cX0_isBlock 19 = .ok (.ireturn, 1) := dk_172 (dk_at dksX0_isBlock_0 19 rfl rfl)
abbrev cX0_blockAt : ByteArray := prog_1_method_8_code
def yX0_blockAt : MethodName := ⟨RX0, "blockAt", "(I)LQuarryOrders$Block;"⟩
def dkwX0_blockAt_0 : List UInt8 := [42, 180, 0, 16, 180, 0, 56, 27, 185, 0, 62, 2, 0, 192, 0, 65, 176]
abbrev dktX0_blockAt_0 : List UInt8 := dkwX0_blockAt_0 ++ []
theorem dksX0_blockAt_0 : cX0_blockAt.data.toList.drop 0 = dktX0_blockAt_0 := by decide +kernel
theorem dX0_blockAt_0 : decode cX0_blockAt 0 = .ok (.aload_n 0, 1) := dk_42 (dk_at dksX0_blockAt_0 0 rfl rfl)
theorem dX0_blockAt_1 : decode cX0_blockAt 1 = .ok (.getfield 16, 3) := dk_180 0 16 (dk_at dksX0_blockAt_0 1 rfl rfl)
theorem dX0_blockAt_4 : decode cX0_blockAt 4 = .ok (.getfield 56, 3) := dk_180 0 56 (dk_at dksX0_blockAt_0 4 rfl rfl)
theorem dX0_blockAt_7 : decode cX0_blockAt 7 = .ok (.iload_n 1, 1) := dk_27 (dk_at dksX0_blockAt_0 7 rfl rfl)
theorem dX0_blockAt_8 : decode cX0_blockAt 8 = .ok (.invokeinterface 62 2, 5) := by decide +kernel
theorem dX0_blockAt_13 : decode cX0_blockAt 13 = .ok (.checkcast 65, 3) := dk_192 0 65 (dk_at dksX0_blockAt_0 13 rfl rfl)
theorem dX0_blockAt_16 : decode cX0_blockAt 16 = .ok (.areturn, 1) := dk_176 (dk_at dksX0_blockAt_0 16 rfl rfl)
abbrev cX0_canBeCut : ByteArray := prog_1_method_12_code
def yX0_canBeCut : MethodName := ⟨RX0, "canBeCut", "(LQuarryOrders$Block;)Z"⟩
def dkwX0_canBeCut_1 : List UInt8 := [4, 167, 0, 4, 3, 172]
abbrev dktX0_canBeCut_1 : List UInt8 := dkwX0_canBeCut_1 ++ []
def dkwX0_canBeCut_0 : List UInt8 := [42, 180, 0, 16, 180, 0, 76, 154, 0, 21, 43, 182, 0, 80, 153, 0, 14, 43, 180, 0, 84, 156, 0, 7]
abbrev dktX0_canBeCut_0 : List UInt8 := dkwX0_canBeCut_0 ++ dktX0_canBeCut_1
theorem dksX0_canBeCut_0 : cX0_canBeCut.data.toList.drop 0 = dktX0_canBeCut_0 := by decide +kernel
theorem dksX0_canBeCut_1 : cX0_canBeCut.data.toList.drop 24 = dktX0_canBeCut_1 := dk_seg dksX0_canBeCut_0 24 rfl rfl
theorem dX0_canBeCut_0 : decode cX0_canBeCut 0 = .ok (.aload_n 0, 1) := dk_42 (dk_at dksX0_canBeCut_0 0 rfl rfl)
theorem dX0_canBeCut_1 : decode cX0_canBeCut 1 = .ok (.getfield 16, 3) := dk_180 0 16 (dk_at dksX0_canBeCut_0 1 rfl rfl)
theorem dX0_canBeCut_4 : decode cX0_canBeCut 4 = .ok (.getfield 76, 3) := dk_180 0 76 (dk_at dksX0_canBeCut_0 4 rfl rfl)
theorem dX0_canBeCut_7 : decode cX0_canBeCut 7 = .ok (.ifCond .ne 21, 3) := dk_154 0 21 (dk_at dksX0_canBeCut_0 7 rfl rfl)
theorem dX0_canBeCut_10 : decode cX0_canBeCut 10 = .ok (.aload_n 1, 1) := dk_43 (dk_at dksX0_canBeCut_0 10 rfl rfl)
theorem dX0_canBeCut_11 : decode cX0_canBeCut 11 = .ok (.invokevirtual 80, 3) := dk_182 0 80 (dk_at dksX0_canBeCut_0 11 rfl rfl)
theorem dX0_canBeCut_14 : decode cX0_canBeCut 14 = .ok (.ifCond .eq 14, 3) := dk_153 0 14 (dk_at dksX0_canBeCut_0 14 rfl rfl)
theorem dX0_canBeCut_17 : decode cX0_canBeCut 17 = .ok (.aload_n 1, 1) := dk_43 (dk_at dksX0_canBeCut_0 17 rfl rfl)
theorem dX0_canBeCut_18 : decode cX0_canBeCut 18 = .ok (.getfield 84, 3) := dk_180 0 84 (dk_at dksX0_canBeCut_0 18 rfl rfl)
theorem dX0_canBeCut_21 : decode cX0_canBeCut 21 = .ok (.ifCond .ge 7, 3) := dk_156 0 7 (dk_at dksX0_canBeCut_0 21 rfl rfl)
theorem dX0_canBeCut_24 : decode cX0_canBeCut 24 = .ok (.iconst 1, 1) := dk_4 (dk_at dksX0_canBeCut_1 0 rfl rfl)
theorem dX0_canBeCut_25 : decode cX0_canBeCut 25 = .ok (.goto 4, 3) := dk_167 0 4 (dk_at dksX0_canBeCut_1 1 rfl rfl)
theorem dX0_canBeCut_28 : decode cX0_canBeCut 28 = .ok (.iconst 0, 1) := dk_3 (dk_at dksX0_canBeCut_1 4 rfl rfl)
theorem dX0_canBeCut_29 : decode cX0_canBeCut 29 = .ok (.ireturn, 1) := dk_172 (dk_at dksX0_canBeCut_1 5 rfl rfl)
abbrev cX0_shelter : ByteArray := prog_1_method_24_code
def yX0_shelter : MethodName := ⟨RX0, "shelter", "(I)I"⟩
def dkwX0_shelter_2 : List UInt8 := [180, 0, 104, 172]
abbrev dktX0_shelter_2 : List UInt8 := dkwX0_shelter_2 ++ []
def dkwX0_shelter_1 : List UInt8 := [182, 0, 92, 180, 0, 104, 154, 0, 7, 4, 167, 0, 4, 3, 181, 0, 104, 42, 27, 182, 0, 92]
abbrev dktX0_shelter_1 : List UInt8 := dkwX0_shelter_1 ++ dktX0_shelter_2
def dkwX0_shelter_0 : List UInt8 := [42, 42, 27, 182, 0, 177, 4, 182, 0, 141, 61, 28, 156, 0, 5, 28, 172, 42, 27, 182, 0, 92, 42, 27]
abbrev dktX0_shelter_0 : List UInt8 := dkwX0_shelter_0 ++ dktX0_shelter_1
theorem dksX0_shelter_0 : cX0_shelter.data.toList.drop 0 = dktX0_shelter_0 := by decide +kernel
theorem dksX0_shelter_1 : cX0_shelter.data.toList.drop 24 = dktX0_shelter_1 := dk_seg dksX0_shelter_0 24 rfl rfl
theorem dksX0_shelter_2 : cX0_shelter.data.toList.drop 46 = dktX0_shelter_2 := dk_seg dksX0_shelter_1 22 rfl rfl
theorem dX0_shelter_0 : decode cX0_shelter 0 = .ok (.aload_n 0, 1) := dk_42 (dk_at dksX0_shelter_0 0 rfl rfl)
theorem dX0_shelter_1 : decode cX0_shelter 1 = .ok (.aload_n 0, 1) := dk_42 (dk_at dksX0_shelter_0 1 rfl rfl)
theorem dX0_shelter_2 : decode cX0_shelter 2 = .ok (.iload_n 1, 1) := dk_27 (dk_at dksX0_shelter_0 2 rfl rfl)
theorem dX0_shelter_3 : decode cX0_shelter 3 = .ok (.invokevirtual 177, 3) := dk_182 0 177 (dk_at dksX0_shelter_0 3 rfl rfl)
theorem dX0_shelter_6 : decode cX0_shelter 6 = .ok (.iconst 1, 1) := dk_4 (dk_at dksX0_shelter_0 6 rfl rfl)
theorem dX0_shelter_7 : decode cX0_shelter 7 = .ok (.invokevirtual 141, 3) := dk_182 0 141 (dk_at dksX0_shelter_0 7 rfl rfl)
theorem dX0_shelter_10 : decode cX0_shelter 10 = .ok (.istore_n 2, 1) := dk_61 (dk_at dksX0_shelter_0 10 rfl rfl)
theorem dX0_shelter_11 : decode cX0_shelter 11 = .ok (.iload_n 2, 1) := dk_28 (dk_at dksX0_shelter_0 11 rfl rfl)
theorem dX0_shelter_12 : decode cX0_shelter 12 = .ok (.ifCond .ge 5, 3) := dk_156 0 5 (dk_at dksX0_shelter_0 12 rfl rfl)
theorem dX0_shelter_15 : decode cX0_shelter 15 = .ok (.iload_n 2, 1) := dk_28 (dk_at dksX0_shelter_0 15 rfl rfl)
theorem dX0_shelter_16 : decode cX0_shelter 16 = .ok (.ireturn, 1) := dk_172 (dk_at dksX0_shelter_0 16 rfl rfl)
theorem dX0_shelter_17 : decode cX0_shelter 17 = .ok (.aload_n 0, 1) := dk_42 (dk_at dksX0_shelter_0 17 rfl rfl)
theorem dX0_shelter_18 : decode cX0_shelter 18 = .ok (.iload_n 1, 1) := dk_27 (dk_at dksX0_shelter_0 18 rfl rfl)
theorem dX0_shelter_19 : decode cX0_shelter 19 = .ok (.invokevirtual 92, 3) := dk_182 0 92 (dk_at dksX0_shelter_0 19 rfl rfl)
theorem dX0_shelter_22 : decode cX0_shelter 22 = .ok (.aload_n 0, 1) := dk_42 (dk_at dksX0_shelter_0 22 rfl rfl)
theorem dX0_shelter_23 : decode cX0_shelter 23 = .ok (.iload_n 1, 1) := dk_27 (dk_at dksX0_shelter_0 23 rfl rfl)
theorem dX0_shelter_24 : decode cX0_shelter 24 = .ok (.invokevirtual 92, 3) := dk_182 0 92 (dk_at dksX0_shelter_1 0 rfl rfl)
theorem dX0_shelter_27 : decode cX0_shelter 27 = .ok (.getfield 104, 3) := dk_180 0 104 (dk_at dksX0_shelter_1 3 rfl rfl)
theorem dX0_shelter_30 : decode cX0_shelter 30 = .ok (.ifCond .ne 7, 3) := dk_154 0 7 (dk_at dksX0_shelter_1 6 rfl rfl)
theorem dX0_shelter_33 : decode cX0_shelter 33 = .ok (.iconst 1, 1) := dk_4 (dk_at dksX0_shelter_1 9 rfl rfl)
theorem dX0_shelter_34 : decode cX0_shelter 34 = .ok (.goto 4, 3) := dk_167 0 4 (dk_at dksX0_shelter_1 10 rfl rfl)
theorem dX0_shelter_37 : decode cX0_shelter 37 = .ok (.iconst 0, 1) := dk_3 (dk_at dksX0_shelter_1 13 rfl rfl)
theorem dX0_shelter_38 : decode cX0_shelter 38 = .ok (.putfield 104, 3) := dk_181 0 104 (dk_at dksX0_shelter_1 14 rfl rfl)
theorem dX0_shelter_41 : decode cX0_shelter 41 = .ok (.aload_n 0, 1) := dk_42 (dk_at dksX0_shelter_1 17 rfl rfl)
theorem dX0_shelter_42 : decode cX0_shelter 42 = .ok (.iload_n 1, 1) := dk_27 (dk_at dksX0_shelter_1 18 rfl rfl)
theorem dX0_shelter_43 : decode cX0_shelter 43 = .ok (.invokevirtual 92, 3) := dk_182 0 92 (dk_at dksX0_shelter_1 19 rfl rfl)
theorem dX0_shelter_46 : decode cX0_shelter 46 = .ok (.getfield 104, 3) := dk_180 0 104 (dk_at dksX0_shelter_2 0 rfl rfl)
theorem dX0_shelter_49 : decode cX0_shelter 49 = .ok (.ireturn, 1) := dk_172 (dk_at dksX0_shelter_2 3 rfl rfl)
abbrev cX0_whyNotShelter : ByteArray := prog_1_method_14_code
def yX0_whyNotShelter : MethodName := ⟨RX0, "whyNotShelter", "(I)I"⟩
def dkwX0_whyNotShelter_2 : List UInt8 := [16, 252, 167, 0, 4, 3, 172]
abbrev dktX0_whyNotShelter_2 : List UInt8 := dkwX0_whyNotShelter_2 ++ []
def dkwX0_whyNotShelter_1 : List UInt8 := [16, 251, 167, 0, 27, 44, 180, 0, 104, 154, 0, 19, 42, 180, 0, 16, 182, 0, 107, 7, 160, 0, 8]
abbrev dktX0_whyNotShelter_1 : List UInt8 := dkwX0_whyNotShelter_1 ++ dktX0_whyNotShelter_2
def dkwX0_whyNotShelter_0 : List UInt8 := [42, 27, 182, 0, 88, 154, 0, 5, 2, 172, 42, 27, 182, 0, 92, 77, 44, 182, 0, 80, 154, 0, 8]
abbrev dktX0_whyNotShelter_0 : List UInt8 := dkwX0_whyNotShelter_0 ++ dktX0_whyNotShelter_1
theorem dksX0_whyNotShelter_0 : cX0_whyNotShelter.data.toList.drop 0 = dktX0_whyNotShelter_0 := by decide +kernel
theorem dksX0_whyNotShelter_1 : cX0_whyNotShelter.data.toList.drop 23 = dktX0_whyNotShelter_1 := dk_seg dksX0_whyNotShelter_0 23 rfl rfl
theorem dksX0_whyNotShelter_2 : cX0_whyNotShelter.data.toList.drop 46 = dktX0_whyNotShelter_2 := dk_seg dksX0_whyNotShelter_1 23 rfl rfl
theorem dX0_whyNotShelter_0 : decode cX0_whyNotShelter 0 = .ok (.aload_n 0, 1) := dk_42 (dk_at dksX0_whyNotShelter_0 0 rfl rfl)
theorem dX0_whyNotShelter_1 : decode cX0_whyNotShelter 1 = .ok (.iload_n 1, 1) := dk_27 (dk_at dksX0_whyNotShelter_0 1 rfl rfl)
theorem dX0_whyNotShelter_2 : decode cX0_whyNotShelter 2 = .ok (.invokevirtual 88, 3) := dk_182 0 88 (dk_at dksX0_whyNotShelter_0 2 rfl rfl)
theorem dX0_whyNotShelter_5 : decode cX0_whyNotShelter 5 = .ok (.ifCond .ne 5, 3) := dk_154 0 5 (dk_at dksX0_whyNotShelter_0 5 rfl rfl)
theorem dX0_whyNotShelter_8 : decode cX0_whyNotShelter 8 = .ok (.iconst (-1), 1) := dk_2 (dk_at dksX0_whyNotShelter_0 8 rfl rfl)
theorem dX0_whyNotShelter_9 : decode cX0_whyNotShelter 9 = .ok (.ireturn, 1) := dk_172 (dk_at dksX0_whyNotShelter_0 9 rfl rfl)
theorem dX0_whyNotShelter_10 : decode cX0_whyNotShelter 10 = .ok (.aload_n 0, 1) := dk_42 (dk_at dksX0_whyNotShelter_0 10 rfl rfl)
theorem dX0_whyNotShelter_11 : decode cX0_whyNotShelter 11 = .ok (.iload_n 1, 1) := dk_27 (dk_at dksX0_whyNotShelter_0 11 rfl rfl)
theorem dX0_whyNotShelter_12 : decode cX0_whyNotShelter 12 = .ok (.invokevirtual 92, 3) := dk_182 0 92 (dk_at dksX0_whyNotShelter_0 12 rfl rfl)
theorem dX0_whyNotShelter_15 : decode cX0_whyNotShelter 15 = .ok (.astore_n 2, 1) := dk_77 (dk_at dksX0_whyNotShelter_0 15 rfl rfl)
theorem dX0_whyNotShelter_16 : decode cX0_whyNotShelter 16 = .ok (.aload_n 2, 1) := dk_44 (dk_at dksX0_whyNotShelter_0 16 rfl rfl)
theorem dX0_whyNotShelter_17 : decode cX0_whyNotShelter 17 = .ok (.invokevirtual 80, 3) := dk_182 0 80 (dk_at dksX0_whyNotShelter_0 17 rfl rfl)
theorem dX0_whyNotShelter_20 : decode cX0_whyNotShelter 20 = .ok (.ifCond .ne 8, 3) := dk_154 0 8 (dk_at dksX0_whyNotShelter_0 20 rfl rfl)
theorem dX0_whyNotShelter_23 : decode cX0_whyNotShelter 23 = .ok (.bipush (-5), 2) := dk_16 251 (dk_at dksX0_whyNotShelter_1 0 rfl rfl)
theorem dX0_whyNotShelter_25 : decode cX0_whyNotShelter 25 = .ok (.goto 27, 3) := dk_167 0 27 (dk_at dksX0_whyNotShelter_1 2 rfl rfl)
theorem dX0_whyNotShelter_28 : decode cX0_whyNotShelter 28 = .ok (.aload_n 2, 1) := dk_44 (dk_at dksX0_whyNotShelter_1 5 rfl rfl)
theorem dX0_whyNotShelter_29 : decode cX0_whyNotShelter 29 = .ok (.getfield 104, 3) := dk_180 0 104 (dk_at dksX0_whyNotShelter_1 6 rfl rfl)
theorem dX0_whyNotShelter_32 : decode cX0_whyNotShelter 32 = .ok (.ifCond .ne 19, 3) := dk_154 0 19 (dk_at dksX0_whyNotShelter_1 9 rfl rfl)
theorem dX0_whyNotShelter_35 : decode cX0_whyNotShelter 35 = .ok (.aload_n 0, 1) := dk_42 (dk_at dksX0_whyNotShelter_1 12 rfl rfl)
theorem dX0_whyNotShelter_36 : decode cX0_whyNotShelter 36 = .ok (.getfield 16, 3) := dk_180 0 16 (dk_at dksX0_whyNotShelter_1 13 rfl rfl)
theorem dX0_whyNotShelter_39 : decode cX0_whyNotShelter 39 = .ok (.invokevirtual 107, 3) := dk_182 0 107 (dk_at dksX0_whyNotShelter_1 16 rfl rfl)
theorem dX0_whyNotShelter_42 : decode cX0_whyNotShelter 42 = .ok (.iconst 4, 1) := dk_7 (dk_at dksX0_whyNotShelter_1 19 rfl rfl)
theorem dX0_whyNotShelter_43 : decode cX0_whyNotShelter 43 = .ok (.if_icmp .ne 8, 3) := dk_160 0 8 (dk_at dksX0_whyNotShelter_1 20 rfl rfl)
theorem dX0_whyNotShelter_46 : decode cX0_whyNotShelter 46 = .ok (.bipush (-4), 2) := dk_16 252 (dk_at dksX0_whyNotShelter_2 0 rfl rfl)
theorem dX0_whyNotShelter_48 : decode cX0_whyNotShelter 48 = .ok (.goto 4, 3) := dk_167 0 4 (dk_at dksX0_whyNotShelter_2 2 rfl rfl)
theorem dX0_whyNotShelter_51 : decode cX0_whyNotShelter 51 = .ok (.iconst 0, 1) := dk_3 (dk_at dksX0_whyNotShelter_2 5 rfl rfl)
theorem dX0_whyNotShelter_52 : decode cX0_whyNotShelter 52 = .ok (.ireturn, 1) := dk_172 (dk_at dksX0_whyNotShelter_2 6 rfl rfl)
abbrev cX0_order : ByteArray := prog_1_method_26_code
def yX0_order : MethodName := ⟨RX0, "order", "(III)I"⟩
def dkwX0_order_0 : List UInt8 := [42, 4, 6, 188, 10, 89, 3, 27, 79, 89, 4, 28, 79, 89, 5, 29, 79, 182, 0, 188, 172]
abbrev dktX0_order_0 : List UInt8 := dkwX0_order_0 ++ []
theorem dksX0_order_0 : cX0_order.data.toList.drop 0 = dktX0_order_0 := by decide +kernel
theorem dX0_order_0 : decode cX0_order 0 = .ok (.aload_n 0, 1) := dk_42 (dk_at dksX0_order_0 0 rfl rfl)
theorem dX0_order_1 : decode cX0_order 1 = .ok (.iconst 1, 1) := dk_4 (dk_at dksX0_order_0 1 rfl rfl)
theorem dX0_order_2 : decode cX0_order 2 = .ok (.iconst 3, 1) := dk_6 (dk_at dksX0_order_0 2 rfl rfl)
theorem dX0_order_3 : decode cX0_order 3 = .ok (.newarray .int, 2) := dk_188_10 (dk_at dksX0_order_0 3 rfl rfl)
theorem dX0_order_5 : decode cX0_order 5 = .ok (.dup, 1) := dk_89 (dk_at dksX0_order_0 5 rfl rfl)
theorem dX0_order_6 : decode cX0_order 6 = .ok (.iconst 0, 1) := dk_3 (dk_at dksX0_order_0 6 rfl rfl)
theorem dX0_order_7 : decode cX0_order 7 = .ok (.iload_n 1, 1) := dk_27 (dk_at dksX0_order_0 7 rfl rfl)
theorem dX0_order_8 : decode cX0_order 8 = .ok (.iastore, 1) := dk_79 (dk_at dksX0_order_0 8 rfl rfl)
theorem dX0_order_9 : decode cX0_order 9 = .ok (.dup, 1) := dk_89 (dk_at dksX0_order_0 9 rfl rfl)
theorem dX0_order_10 : decode cX0_order 10 = .ok (.iconst 1, 1) := dk_4 (dk_at dksX0_order_0 10 rfl rfl)
theorem dX0_order_11 : decode cX0_order 11 = .ok (.iload_n 2, 1) := dk_28 (dk_at dksX0_order_0 11 rfl rfl)
theorem dX0_order_12 : decode cX0_order 12 = .ok (.iastore, 1) := dk_79 (dk_at dksX0_order_0 12 rfl rfl)
theorem dX0_order_13 : decode cX0_order 13 = .ok (.dup, 1) := dk_89 (dk_at dksX0_order_0 13 rfl rfl)
theorem dX0_order_14 : decode cX0_order 14 = .ok (.iconst 2, 1) := dk_5 (dk_at dksX0_order_0 14 rfl rfl)
theorem dX0_order_15 : decode cX0_order 15 = .ok (.iload_n 3, 1) := dk_29 (dk_at dksX0_order_0 15 rfl rfl)
theorem dX0_order_16 : decode cX0_order 16 = .ok (.iastore, 1) := dk_79 (dk_at dksX0_order_0 16 rfl rfl)
theorem dX0_order_17 : decode cX0_order 17 = .ok (.invokevirtual 188, 3) := dk_182 0 188 (dk_at dksX0_order_0 17 rfl rfl)
theorem dX0_order_20 : decode cX0_order 20 = .ok (.ireturn, 1) := dk_172 (dk_at dksX0_order_0 20 rfl rfl)
abbrev cX0_orders : ByteArray := prog_1_method_25_code
def yX0_orders : MethodName := ⟨RX0, "orders", "(Z[I)I"⟩
def dkwX0_orders_4 : List UInt8 := [180, 0, 59, 185, 0, 38, 1, 0, 4, 100, 172]
abbrev dktX0_orders_4 : List UInt8 := dkwX0_orders_4 ++ []
def dkwX0_orders_3 : List UInt8 := [4, 46, 44, 5, 46, 183, 0, 154, 182, 0, 181, 183, 0, 185, 185, 0, 52, 2, 0, 87, 42, 180, 0, 16]
abbrev dktX0_orders_3 : List UInt8 := dkwX0_orders_3 ++ dktX0_orders_4
def dkwX0_orders_2 : List UInt8 := [156, 0, 5, 29, 172, 42, 180, 0, 16, 180, 0, 59, 187, 0, 67, 89, 187, 0, 152, 89, 44, 3, 46, 44]
abbrev dktX0_orders_2 : List UInt8 := dkwX0_orders_2 ++ dktX0_orders_3
def dkwX0_orders_1 : List UInt8 := [185, 0, 38, 1, 0, 16, 10, 160, 0, 8, 16, 252, 167, 0, 4, 3, 27, 182, 0, 141, 62, 29]
abbrev dktX0_orders_1 : List UInt8 := dkwX0_orders_1 ++ dktX0_orders_2
def dkwX0_orders_0 : List UInt8 := [42, 44, 184, 0, 72, 154, 0, 8, 16, 254, 167, 0, 26, 42, 180, 0, 16, 180, 0, 59]
abbrev dktX0_orders_0 : List UInt8 := dkwX0_orders_0 ++ dktX0_orders_1
theorem dksX0_orders_0 : cX0_orders.data.toList.drop 0 = dktX0_orders_0 := by decide +kernel
theorem dksX0_orders_1 : cX0_orders.data.toList.drop 20 = dktX0_orders_1 := dk_seg dksX0_orders_0 20 rfl rfl
theorem dksX0_orders_2 : cX0_orders.data.toList.drop 42 = dktX0_orders_2 := dk_seg dksX0_orders_1 22 rfl rfl
theorem dksX0_orders_3 : cX0_orders.data.toList.drop 66 = dktX0_orders_3 := dk_seg dksX0_orders_2 24 rfl rfl
theorem dksX0_orders_4 : cX0_orders.data.toList.drop 90 = dktX0_orders_4 := dk_seg dksX0_orders_3 24 rfl rfl
theorem dX0_orders_0 : decode cX0_orders 0 = .ok (.aload_n 0, 1) := dk_42 (dk_at dksX0_orders_0 0 rfl rfl)
theorem dX0_orders_1 : decode cX0_orders 1 = .ok (.aload_n 2, 1) := dk_44 (dk_at dksX0_orders_0 1 rfl rfl)
theorem dX0_orders_2 : decode cX0_orders 2 = .ok (.invokestatic 72, 3) := dk_184 0 72 (dk_at dksX0_orders_0 2 rfl rfl)
theorem dX0_orders_5 : decode cX0_orders 5 = .ok (.ifCond .ne 8, 3) := dk_154 0 8 (dk_at dksX0_orders_0 5 rfl rfl)
theorem dX0_orders_8 : decode cX0_orders 8 = .ok (.bipush (-2), 2) := dk_16 254 (dk_at dksX0_orders_0 8 rfl rfl)
theorem dX0_orders_10 : decode cX0_orders 10 = .ok (.goto 26, 3) := dk_167 0 26 (dk_at dksX0_orders_0 10 rfl rfl)
theorem dX0_orders_13 : decode cX0_orders 13 = .ok (.aload_n 0, 1) := dk_42 (dk_at dksX0_orders_0 13 rfl rfl)
theorem dX0_orders_14 : decode cX0_orders 14 = .ok (.getfield 16, 3) := dk_180 0 16 (dk_at dksX0_orders_0 14 rfl rfl)
theorem dX0_orders_17 : decode cX0_orders 17 = .ok (.getfield 59, 3) := dk_180 0 59 (dk_at dksX0_orders_0 17 rfl rfl)
theorem dX0_orders_20 : decode cX0_orders 20 = .ok (.invokeinterface 38 1, 5) := by decide +kernel
theorem dX0_orders_25 : decode cX0_orders 25 = .ok (.bipush 10, 2) := dk_16 10 (dk_at dksX0_orders_1 5 rfl rfl)
theorem dX0_orders_27 : decode cX0_orders 27 = .ok (.if_icmp .ne 8, 3) := dk_160 0 8 (dk_at dksX0_orders_1 7 rfl rfl)
theorem dX0_orders_30 : decode cX0_orders 30 = .ok (.bipush (-4), 2) := dk_16 252 (dk_at dksX0_orders_1 10 rfl rfl)
theorem dX0_orders_32 : decode cX0_orders 32 = .ok (.goto 4, 3) := dk_167 0 4 (dk_at dksX0_orders_1 12 rfl rfl)
theorem dX0_orders_35 : decode cX0_orders 35 = .ok (.iconst 0, 1) := dk_3 (dk_at dksX0_orders_1 15 rfl rfl)
theorem dX0_orders_36 : decode cX0_orders 36 = .ok (.iload_n 1, 1) := dk_27 (dk_at dksX0_orders_1 16 rfl rfl)
theorem dX0_orders_37 : decode cX0_orders 37 = .ok (.invokevirtual 141, 3) := dk_182 0 141 (dk_at dksX0_orders_1 17 rfl rfl)
theorem dX0_orders_40 : decode cX0_orders 40 = .ok (.istore_n 3, 1) := dk_62 (dk_at dksX0_orders_1 20 rfl rfl)
theorem dX0_orders_41 : decode cX0_orders 41 = .ok (.iload_n 3, 1) := dk_29 (dk_at dksX0_orders_1 21 rfl rfl)
theorem dX0_orders_42 : decode cX0_orders 42 = .ok (.ifCond .ge 5, 3) := dk_156 0 5 (dk_at dksX0_orders_2 0 rfl rfl)
theorem dX0_orders_45 : decode cX0_orders 45 = .ok (.iload_n 3, 1) := dk_29 (dk_at dksX0_orders_2 3 rfl rfl)
theorem dX0_orders_46 : decode cX0_orders 46 = .ok (.ireturn, 1) := dk_172 (dk_at dksX0_orders_2 4 rfl rfl)
theorem dX0_orders_47 : decode cX0_orders 47 = .ok (.aload_n 0, 1) := dk_42 (dk_at dksX0_orders_2 5 rfl rfl)
theorem dX0_orders_48 : decode cX0_orders 48 = .ok (.getfield 16, 3) := dk_180 0 16 (dk_at dksX0_orders_2 6 rfl rfl)
theorem dX0_orders_51 : decode cX0_orders 51 = .ok (.getfield 59, 3) := dk_180 0 59 (dk_at dksX0_orders_2 9 rfl rfl)
theorem dX0_orders_54 : decode cX0_orders 54 = .ok (.new 67, 3) := dk_187 0 67 (dk_at dksX0_orders_2 12 rfl rfl)
theorem dX0_orders_57 : decode cX0_orders 57 = .ok (.dup, 1) := dk_89 (dk_at dksX0_orders_2 15 rfl rfl)
theorem dX0_orders_58 : decode cX0_orders 58 = .ok (.new 152, 3) := dk_187 0 152 (dk_at dksX0_orders_2 16 rfl rfl)
theorem dX0_orders_61 : decode cX0_orders 61 = .ok (.dup, 1) := dk_89 (dk_at dksX0_orders_2 19 rfl rfl)
theorem dX0_orders_62 : decode cX0_orders 62 = .ok (.aload_n 2, 1) := dk_44 (dk_at dksX0_orders_2 20 rfl rfl)
theorem dX0_orders_63 : decode cX0_orders 63 = .ok (.iconst 0, 1) := dk_3 (dk_at dksX0_orders_2 21 rfl rfl)
theorem dX0_orders_64 : decode cX0_orders 64 = .ok (.iaload, 1) := dk_46 (dk_at dksX0_orders_2 22 rfl rfl)
theorem dX0_orders_65 : decode cX0_orders 65 = .ok (.aload_n 2, 1) := dk_44 (dk_at dksX0_orders_2 23 rfl rfl)
theorem dX0_orders_66 : decode cX0_orders 66 = .ok (.iconst 1, 1) := dk_4 (dk_at dksX0_orders_3 0 rfl rfl)
theorem dX0_orders_67 : decode cX0_orders 67 = .ok (.iaload, 1) := dk_46 (dk_at dksX0_orders_3 1 rfl rfl)
theorem dX0_orders_68 : decode cX0_orders 68 = .ok (.aload_n 2, 1) := dk_44 (dk_at dksX0_orders_3 2 rfl rfl)
theorem dX0_orders_69 : decode cX0_orders 69 = .ok (.iconst 2, 1) := dk_5 (dk_at dksX0_orders_3 3 rfl rfl)
theorem dX0_orders_70 : decode cX0_orders 70 = .ok (.iaload, 1) := dk_46 (dk_at dksX0_orders_3 4 rfl rfl)
theorem dX0_orders_71 : decode cX0_orders 71 = .ok (.invokespecial 154, 3) := dk_183 0 154 (dk_at dksX0_orders_3 5 rfl rfl)
theorem dX0_orders_74 : decode cX0_orders 74 = .ok (.invokevirtual 181, 3) := dk_182 0 181 (dk_at dksX0_orders_3 8 rfl rfl)
theorem dX0_orders_77 : decode cX0_orders 77 = .ok (.invokespecial 185, 3) := dk_183 0 185 (dk_at dksX0_orders_3 11 rfl rfl)
theorem dX0_orders_80 : decode cX0_orders 80 = .ok (.invokeinterface 52 2, 5) := by decide +kernel
theorem dX0_orders_85 : decode cX0_orders 85 = .ok (.pop, 1) := dk_87 (dk_at dksX0_orders_3 19 rfl rfl)
theorem dX0_orders_86 : decode cX0_orders 86 = .ok (.aload_n 0, 1) := dk_42 (dk_at dksX0_orders_3 20 rfl rfl)
theorem dX0_orders_87 : decode cX0_orders 87 = .ok (.getfield 16, 3) := dk_180 0 16 (dk_at dksX0_orders_3 21 rfl rfl)
theorem dX0_orders_90 : decode cX0_orders 90 = .ok (.getfield 59, 3) := dk_180 0 59 (dk_at dksX0_orders_4 0 rfl rfl)
theorem dX0_orders_93 : decode cX0_orders 93 = .ok (.invokeinterface 38 1, 5) := by decide +kernel
theorem dX0_orders_98 : decode cX0_orders 98 = .ok (.iconst 1, 1) := dk_4 (dk_at dksX0_orders_4 8 rfl rfl)
theorem dX0_orders_99 : decode cX0_orders 99 = .ok (.isub, 1) := dk_100 (dk_at dksX0_orders_4 9 rfl rfl)
theorem dX0_orders_100 : decode cX0_orders 100 = .ok (.ireturn, 1) := dk_172 (dk_at dksX0_orders_4 10 rfl rfl)
abbrev cX0_give : ByteArray := prog_1_method_28_code
def yX0_give : MethodName := ⟨RX0, "give", "(II)I"⟩
def dkwX0_give_0 : List UInt8 := [42, 27, 28, 4, 182, 0, 198, 172]
abbrev dktX0_give_0 : List UInt8 := dkwX0_give_0 ++ []
theorem dksX0_give_0 : cX0_give.data.toList.drop 0 = dktX0_give_0 := by decide +kernel
theorem dX0_give_0 : decode cX0_give 0 = .ok (.aload_n 0, 1) := dk_42 (dk_at dksX0_give_0 0 rfl rfl)
theorem dX0_give_1 : decode cX0_give 1 = .ok (.iload_n 1, 1) := dk_27 (dk_at dksX0_give_0 1 rfl rfl)
theorem dX0_give_2 : decode cX0_give 2 = .ok (.iload_n 2, 1) := dk_28 (dk_at dksX0_give_0 2 rfl rfl)
theorem dX0_give_3 : decode cX0_give 3 = .ok (.iconst 1, 1) := dk_4 (dk_at dksX0_give_0 3 rfl rfl)
theorem dX0_give_4 : decode cX0_give 4 = .ok (.invokevirtual 198, 3) := dk_182 0 198 (dk_at dksX0_give_0 4 rfl rfl)
theorem dX0_give_7 : decode cX0_give 7 = .ok (.ireturn, 1) := dk_172 (dk_at dksX0_give_0 7 rfl rfl)
abbrev cX0_gives : ByteArray := prog_1_method_27_code
def yX0_gives : MethodName := ⟨RX0, "gives", "(IIZ)I"⟩
def dkwX0_gives_2 : List UInt8 := [181, 0, 117, 42, 27, 182, 0, 113, 28, 181, 0, 195, 42, 28, 182, 0, 92, 27, 181, 0, 84, 21, 5, 172]
abbrev dktX0_gives_2 : List UInt8 := dkwX0_gives_2 ++ []
def dkwX0_gives_1 : List UInt8 := [180, 0, 16, 42, 27, 182, 0, 113, 42, 28, 182, 0, 92, 182, 0, 120, 54, 5, 42, 27, 182, 0, 113, 4]
abbrev dktX0_gives_1 : List UInt8 := dkwX0_gives_1 ++ dktX0_gives_2
def dkwX0_gives_0 : List UInt8 := [42, 42, 27, 28, 182, 0, 191, 29, 182, 0, 141, 54, 4, 21, 4, 156, 0, 6, 21, 4, 172, 42]
abbrev dktX0_gives_0 : List UInt8 := dkwX0_gives_0 ++ dktX0_gives_1
theorem dksX0_gives_0 : cX0_gives.data.toList.drop 0 = dktX0_gives_0 := by decide +kernel
theorem dksX0_gives_1 : cX0_gives.data.toList.drop 22 = dktX0_gives_1 := dk_seg dksX0_gives_0 22 rfl rfl
theorem dksX0_gives_2 : cX0_gives.data.toList.drop 46 = dktX0_gives_2 := dk_seg dksX0_gives_1 24 rfl rfl
theorem dX0_gives_0 : decode cX0_gives 0 = .ok (.aload_n 0, 1) := dk_42 (dk_at dksX0_gives_0 0 rfl rfl)
theorem dX0_gives_1 : decode cX0_gives 1 = .ok (.aload_n 0, 1) := dk_42 (dk_at dksX0_gives_0 1 rfl rfl)
theorem dX0_gives_2 : decode cX0_gives 2 = .ok (.iload_n 1, 1) := dk_27 (dk_at dksX0_gives_0 2 rfl rfl)
theorem dX0_gives_3 : decode cX0_gives 3 = .ok (.iload_n 2, 1) := dk_28 (dk_at dksX0_gives_0 3 rfl rfl)
theorem dX0_gives_4 : decode cX0_gives 4 = .ok (.invokevirtual 191, 3) := dk_182 0 191 (dk_at dksX0_gives_0 4 rfl rfl)
theorem dX0_gives_7 : decode cX0_gives 7 = .ok (.iload_n 3, 1) := dk_29 (dk_at dksX0_gives_0 7 rfl rfl)
theorem dX0_gives_8 : decode cX0_gives 8 = .ok (.invokevirtual 141, 3) := dk_182 0 141 (dk_at dksX0_gives_0 8 rfl rfl)
theorem dX0_gives_11 : decode cX0_gives 11 = .ok (.istore 4, 2) := dk_54 4 (dk_at dksX0_gives_0 11 rfl rfl)
theorem dX0_gives_13 : decode cX0_gives 13 = .ok (.iload 4, 2) := dk_21 4 (dk_at dksX0_gives_0 13 rfl rfl)
theorem dX0_gives_15 : decode cX0_gives 15 = .ok (.ifCond .ge 6, 3) := dk_156 0 6 (dk_at dksX0_gives_0 15 rfl rfl)
theorem dX0_gives_18 : decode cX0_gives 18 = .ok (.iload 4, 2) := dk_21 4 (dk_at dksX0_gives_0 18 rfl rfl)
theorem dX0_gives_20 : decode cX0_gives 20 = .ok (.ireturn, 1) := dk_172 (dk_at dksX0_gives_0 20 rfl rfl)
theorem dX0_gives_21 : decode cX0_gives 21 = .ok (.aload_n 0, 1) := dk_42 (dk_at dksX0_gives_0 21 rfl rfl)
theorem dX0_gives_22 : decode cX0_gives 22 = .ok (.getfield 16, 3) := dk_180 0 16 (dk_at dksX0_gives_1 0 rfl rfl)
theorem dX0_gives_25 : decode cX0_gives 25 = .ok (.aload_n 0, 1) := dk_42 (dk_at dksX0_gives_1 3 rfl rfl)
theorem dX0_gives_26 : decode cX0_gives 26 = .ok (.iload_n 1, 1) := dk_27 (dk_at dksX0_gives_1 4 rfl rfl)
theorem dX0_gives_27 : decode cX0_gives 27 = .ok (.invokevirtual 113, 3) := dk_182 0 113 (dk_at dksX0_gives_1 5 rfl rfl)
theorem dX0_gives_30 : decode cX0_gives 30 = .ok (.aload_n 0, 1) := dk_42 (dk_at dksX0_gives_1 8 rfl rfl)
theorem dX0_gives_31 : decode cX0_gives 31 = .ok (.iload_n 2, 1) := dk_28 (dk_at dksX0_gives_1 9 rfl rfl)
theorem dX0_gives_32 : decode cX0_gives 32 = .ok (.invokevirtual 92, 3) := dk_182 0 92 (dk_at dksX0_gives_1 10 rfl rfl)
theorem dX0_gives_35 : decode cX0_gives 35 = .ok (.invokevirtual 120, 3) := dk_182 0 120 (dk_at dksX0_gives_1 13 rfl rfl)
theorem dX0_gives_38 : decode cX0_gives 38 = .ok (.istore 5, 2) := dk_54 5 (dk_at dksX0_gives_1 16 rfl rfl)
theorem dX0_gives_40 : decode cX0_gives 40 = .ok (.aload_n 0, 1) := dk_42 (dk_at dksX0_gives_1 18 rfl rfl)
theorem dX0_gives_41 : decode cX0_gives 41 = .ok (.iload_n 1, 1) := dk_27 (dk_at dksX0_gives_1 19 rfl rfl)
theorem dX0_gives_42 : decode cX0_gives 42 = .ok (.invokevirtual 113, 3) := dk_182 0 113 (dk_at dksX0_gives_1 20 rfl rfl)
theorem dX0_gives_45 : decode cX0_gives 45 = .ok (.iconst 1, 1) := dk_4 (dk_at dksX0_gives_1 23 rfl rfl)
theorem dX0_gives_46 : decode cX0_gives 46 = .ok (.putfield 117, 3) := dk_181 0 117 (dk_at dksX0_gives_2 0 rfl rfl)
theorem dX0_gives_49 : decode cX0_gives 49 = .ok (.aload_n 0, 1) := dk_42 (dk_at dksX0_gives_2 3 rfl rfl)
theorem dX0_gives_50 : decode cX0_gives 50 = .ok (.iload_n 1, 1) := dk_27 (dk_at dksX0_gives_2 4 rfl rfl)
theorem dX0_gives_51 : decode cX0_gives 51 = .ok (.invokevirtual 113, 3) := dk_182 0 113 (dk_at dksX0_gives_2 5 rfl rfl)
theorem dX0_gives_54 : decode cX0_gives 54 = .ok (.iload_n 2, 1) := dk_28 (dk_at dksX0_gives_2 8 rfl rfl)
theorem dX0_gives_55 : decode cX0_gives 55 = .ok (.putfield 195, 3) := dk_181 0 195 (dk_at dksX0_gives_2 9 rfl rfl)
theorem dX0_gives_58 : decode cX0_gives 58 = .ok (.aload_n 0, 1) := dk_42 (dk_at dksX0_gives_2 12 rfl rfl)
theorem dX0_gives_59 : decode cX0_gives 59 = .ok (.iload_n 2, 1) := dk_28 (dk_at dksX0_gives_2 13 rfl rfl)
theorem dX0_gives_60 : decode cX0_gives 60 = .ok (.invokevirtual 92, 3) := dk_182 0 92 (dk_at dksX0_gives_2 14 rfl rfl)
theorem dX0_gives_63 : decode cX0_gives 63 = .ok (.iload_n 1, 1) := dk_27 (dk_at dksX0_gives_2 17 rfl rfl)
theorem dX0_gives_64 : decode cX0_gives 64 = .ok (.putfield 84, 3) := dk_181 0 84 (dk_at dksX0_gives_2 18 rfl rfl)
theorem dX0_gives_67 : decode cX0_gives 67 = .ok (.iload 5, 2) := dk_21 5 (dk_at dksX0_gives_2 21 rfl rfl)
theorem dX0_gives_69 : decode cX0_gives 69 = .ok (.ireturn, 1) := dk_172 (dk_at dksX0_gives_2 23 rfl rfl)
abbrev cX0_whyNotGive : ByteArray := prog_1_method_15_code
def yX0_whyNotGive : MethodName := ⟨RX0, "whyNotGive", "(II)I"⟩
def dkwX0_whyNotGive_2 : List UInt8 := [156, 0, 8, 16, 251, 167, 0, 4, 3, 172]
abbrev dktX0_whyNotGive_2 : List UInt8 := dkwX0_whyNotGive_2 ++ []
def dkwX0_whyNotGive_1 : List UInt8 := [180, 0, 117, 154, 0, 23, 42, 180, 0, 16, 42, 27, 182, 0, 113, 42, 28, 182, 0, 92, 182, 0, 120]
abbrev dktX0_whyNotGive_1 : List UInt8 := dkwX0_whyNotGive_1 ++ dktX0_whyNotGive_2
def dkwX0_whyNotGive_0 : List UInt8 := [42, 27, 182, 0, 110, 153, 0, 11, 42, 28, 182, 0, 88, 154, 0, 5, 2, 172, 42, 27, 182, 0, 113]
abbrev dktX0_whyNotGive_0 : List UInt8 := dkwX0_whyNotGive_0 ++ dktX0_whyNotGive_1
theorem dksX0_whyNotGive_0 : cX0_whyNotGive.data.toList.drop 0 = dktX0_whyNotGive_0 := by decide +kernel
theorem dksX0_whyNotGive_1 : cX0_whyNotGive.data.toList.drop 23 = dktX0_whyNotGive_1 := dk_seg dksX0_whyNotGive_0 23 rfl rfl
theorem dksX0_whyNotGive_2 : cX0_whyNotGive.data.toList.drop 46 = dktX0_whyNotGive_2 := dk_seg dksX0_whyNotGive_1 23 rfl rfl
theorem dX0_whyNotGive_0 : decode cX0_whyNotGive 0 = .ok (.aload_n 0, 1) := dk_42 (dk_at dksX0_whyNotGive_0 0 rfl rfl)
theorem dX0_whyNotGive_1 : decode cX0_whyNotGive 1 = .ok (.iload_n 1, 1) := dk_27 (dk_at dksX0_whyNotGive_0 1 rfl rfl)
theorem dX0_whyNotGive_2 : decode cX0_whyNotGive 2 = .ok (.invokevirtual 110, 3) := dk_182 0 110 (dk_at dksX0_whyNotGive_0 2 rfl rfl)
theorem dX0_whyNotGive_5 : decode cX0_whyNotGive 5 = .ok (.ifCond .eq 11, 3) := dk_153 0 11 (dk_at dksX0_whyNotGive_0 5 rfl rfl)
theorem dX0_whyNotGive_8 : decode cX0_whyNotGive 8 = .ok (.aload_n 0, 1) := dk_42 (dk_at dksX0_whyNotGive_0 8 rfl rfl)
theorem dX0_whyNotGive_9 : decode cX0_whyNotGive 9 = .ok (.iload_n 2, 1) := dk_28 (dk_at dksX0_whyNotGive_0 9 rfl rfl)
theorem dX0_whyNotGive_10 : decode cX0_whyNotGive 10 = .ok (.invokevirtual 88, 3) := dk_182 0 88 (dk_at dksX0_whyNotGive_0 10 rfl rfl)
theorem dX0_whyNotGive_13 : decode cX0_whyNotGive 13 = .ok (.ifCond .ne 5, 3) := dk_154 0 5 (dk_at dksX0_whyNotGive_0 13 rfl rfl)
theorem dX0_whyNotGive_16 : decode cX0_whyNotGive 16 = .ok (.iconst (-1), 1) := dk_2 (dk_at dksX0_whyNotGive_0 16 rfl rfl)
theorem dX0_whyNotGive_17 : decode cX0_whyNotGive 17 = .ok (.ireturn, 1) := dk_172 (dk_at dksX0_whyNotGive_0 17 rfl rfl)
theorem dX0_whyNotGive_18 : decode cX0_whyNotGive 18 = .ok (.aload_n 0, 1) := dk_42 (dk_at dksX0_whyNotGive_0 18 rfl rfl)
theorem dX0_whyNotGive_19 : decode cX0_whyNotGive 19 = .ok (.iload_n 1, 1) := dk_27 (dk_at dksX0_whyNotGive_0 19 rfl rfl)
theorem dX0_whyNotGive_20 : decode cX0_whyNotGive 20 = .ok (.invokevirtual 113, 3) := dk_182 0 113 (dk_at dksX0_whyNotGive_0 20 rfl rfl)
theorem dX0_whyNotGive_23 : decode cX0_whyNotGive 23 = .ok (.getfield 117, 3) := dk_180 0 117 (dk_at dksX0_whyNotGive_1 0 rfl rfl)
theorem dX0_whyNotGive_26 : decode cX0_whyNotGive 26 = .ok (.ifCond .ne 23, 3) := dk_154 0 23 (dk_at dksX0_whyNotGive_1 3 rfl rfl)
theorem dX0_whyNotGive_29 : decode cX0_whyNotGive 29 = .ok (.aload_n 0, 1) := dk_42 (dk_at dksX0_whyNotGive_1 6 rfl rfl)
theorem dX0_whyNotGive_30 : decode cX0_whyNotGive 30 = .ok (.getfield 16, 3) := dk_180 0 16 (dk_at dksX0_whyNotGive_1 7 rfl rfl)
theorem dX0_whyNotGive_33 : decode cX0_whyNotGive 33 = .ok (.aload_n 0, 1) := dk_42 (dk_at dksX0_whyNotGive_1 10 rfl rfl)
theorem dX0_whyNotGive_34 : decode cX0_whyNotGive 34 = .ok (.iload_n 1, 1) := dk_27 (dk_at dksX0_whyNotGive_1 11 rfl rfl)
theorem dX0_whyNotGive_35 : decode cX0_whyNotGive 35 = .ok (.invokevirtual 113, 3) := dk_182 0 113 (dk_at dksX0_whyNotGive_1 12 rfl rfl)
theorem dX0_whyNotGive_38 : decode cX0_whyNotGive 38 = .ok (.aload_n 0, 1) := dk_42 (dk_at dksX0_whyNotGive_1 15 rfl rfl)
theorem dX0_whyNotGive_39 : decode cX0_whyNotGive 39 = .ok (.iload_n 2, 1) := dk_28 (dk_at dksX0_whyNotGive_1 16 rfl rfl)
theorem dX0_whyNotGive_40 : decode cX0_whyNotGive 40 = .ok (.invokevirtual 92, 3) := dk_182 0 92 (dk_at dksX0_whyNotGive_1 17 rfl rfl)
theorem dX0_whyNotGive_43 : decode cX0_whyNotGive 43 = .ok (.invokevirtual 120, 3) := dk_182 0 120 (dk_at dksX0_whyNotGive_1 20 rfl rfl)
theorem dX0_whyNotGive_46 : decode cX0_whyNotGive 46 = .ok (.ifCond .ge 8, 3) := dk_156 0 8 (dk_at dksX0_whyNotGive_2 0 rfl rfl)
theorem dX0_whyNotGive_49 : decode cX0_whyNotGive 49 = .ok (.bipush (-5), 2) := dk_16 251 (dk_at dksX0_whyNotGive_2 3 rfl rfl)
theorem dX0_whyNotGive_51 : decode cX0_whyNotGive 51 = .ok (.goto 4, 3) := dk_167 0 4 (dk_at dksX0_whyNotGive_2 5 rfl rfl)
theorem dX0_whyNotGive_54 : decode cX0_whyNotGive 54 = .ok (.iconst 0, 1) := dk_3 (dk_at dksX0_whyNotGive_2 8 rfl rfl)
theorem dX0_whyNotGive_55 : decode cX0_whyNotGive 55 = .ok (.ireturn, 1) := dk_172 (dk_at dksX0_whyNotGive_2 9 rfl rfl)
abbrev cX0_isOrder : ByteArray := prog_1_method_6_code
def yX0_isOrder : MethodName := ⟨RX0, "isOrder", "(I)Z"⟩
def dkwX0_isOrder_0 : List UInt8 := [27, 3, 42, 180, 0, 16, 180, 0, 59, 185, 0, 38, 1, 0, 4, 100, 184, 0, 3, 172]
abbrev dktX0_isOrder_0 : List UInt8 := dkwX0_isOrder_0 ++ []
theorem dksX0_isOrder_0 : cX0_isOrder.data.toList.drop 0 = dktX0_isOrder_0 := by decide +kernel
theorem dX0_isOrder_0 : decode cX0_isOrder 0 = .ok (.iload_n 1, 1) := dk_27 (dk_at dksX0_isOrder_0 0 rfl rfl)
theorem dX0_isOrder_1 : decode cX0_isOrder 1 = .ok (.iconst 0, 1) := dk_3 (dk_at dksX0_isOrder_0 1 rfl rfl)
theorem dX0_isOrder_2 : decode cX0_isOrder 2 = .ok (.aload_n 0, 1) := dk_42 (dk_at dksX0_isOrder_0 2 rfl rfl)
theorem dX0_isOrder_3 : decode cX0_isOrder 3 = .ok (.getfield 16, 3) := dk_180 0 16 (dk_at dksX0_isOrder_0 3 rfl rfl)
theorem dX0_isOrder_6 : decode cX0_isOrder 6 = .ok (.getfield 59, 3) := dk_180 0 59 (dk_at dksX0_isOrder_0 6 rfl rfl)
theorem dX0_isOrder_9 : decode cX0_isOrder 9 = .ok (.invokeinterface 38 1, 5) := by decide +kernel
theorem dX0_isOrder_14 : decode cX0_isOrder 14 = .ok (.iconst 1, 1) := dk_4 (dk_at dksX0_isOrder_0 14 rfl rfl)
theorem dX0_isOrder_15 : decode cX0_isOrder 15 = .ok (.isub, 1) := dk_100 (dk_at dksX0_isOrder_0 15 rfl rfl)
theorem dX0_isOrder_16 : decode cX0_isOrder 16 = .ok (.invokestatic 3, 3) := dk_184 0 3 (dk_at dksX0_isOrder_0 16 rfl rfl)
theorem dX0_isOrder_19 : decode cX0_isOrder 19 = .ok (.ireturn, 1) := dk_172 (dk_at dksX0_isOrder_0 19 rfl rfl)
abbrev cX0_orderAt : ByteArray := prog_1_method_9_code
def yX0_orderAt : MethodName := ⟨RX0, "orderAt", "(I)LQuarryOrders$Order;"⟩
def dkwX0_orderAt_0 : List UInt8 := [42, 180, 0, 16, 180, 0, 59, 27, 185, 0, 62, 2, 0, 192, 0, 67, 176]
abbrev dktX0_orderAt_0 : List UInt8 := dkwX0_orderAt_0 ++ []
theorem dksX0_orderAt_0 : cX0_orderAt.data.toList.drop 0 = dktX0_orderAt_0 := by decide +kernel
theorem dX0_orderAt_0 : decode cX0_orderAt 0 = .ok (.aload_n 0, 1) := dk_42 (dk_at dksX0_orderAt_0 0 rfl rfl)
theorem dX0_orderAt_1 : decode cX0_orderAt 1 = .ok (.getfield 16, 3) := dk_180 0 16 (dk_at dksX0_orderAt_0 1 rfl rfl)
theorem dX0_orderAt_4 : decode cX0_orderAt 4 = .ok (.getfield 59, 3) := dk_180 0 59 (dk_at dksX0_orderAt_0 4 rfl rfl)
theorem dX0_orderAt_7 : decode cX0_orderAt 7 = .ok (.iload_n 1, 1) := dk_27 (dk_at dksX0_orderAt_0 7 rfl rfl)
theorem dX0_orderAt_8 : decode cX0_orderAt 8 = .ok (.invokeinterface 62 2, 5) := by decide +kernel
theorem dX0_orderAt_13 : decode cX0_orderAt 13 = .ok (.checkcast 67, 3) := dk_192 0 67 (dk_at dksX0_orderAt_0 13 rfl rfl)
theorem dX0_orderAt_16 : decode cX0_orderAt 16 = .ok (.areturn, 1) := dk_176 (dk_at dksX0_orderAt_0 16 rfl rfl)
abbrev cX0_takeBack : ByteArray := prog_1_method_29_code
def yX0_takeBack : MethodName := ⟨RX0, "takeBack", "(I)I"⟩
def dkwX0_takeBack_4 : List UInt8 := [182, 0, 113, 3, 181, 0, 117, 21, 4, 172]
abbrev dktX0_takeBack_4 : List UInt8 := dkwX0_takeBack_4 ++ []
def dkwX0_takeBack_3 : List UInt8 := [21, 4, 182, 0, 92, 16, 250, 181, 0, 84, 42, 27, 182, 0, 113, 16, 250, 181, 0, 195, 42, 27]
abbrev dktX0_takeBack_3 : List UInt8 := dkwX0_takeBack_3 ++ dktX0_takeBack_4
def dkwX0_takeBack_2 : List UInt8 := [16, 251, 4, 182, 0, 141, 62, 29, 156, 0, 5, 29, 172, 42, 27, 182, 0, 113, 180, 0, 195, 54, 4, 42]
abbrev dktX0_takeBack_2 : List UInt8 := dkwX0_takeBack_2 ++ dktX0_takeBack_3
def dkwX0_takeBack_1 : List UInt8 := [3, 61, 42, 42, 27, 182, 0, 110, 154, 0, 7, 2, 167, 0, 13, 28, 153, 0, 7, 3, 167, 0, 5]
abbrev dktX0_takeBack_1 : List UInt8 := dkwX0_takeBack_1 ++ dktX0_takeBack_2
def dkwX0_takeBack_0 : List UInt8 := [42, 27, 182, 0, 110, 153, 0, 19, 42, 27, 182, 0, 113, 180, 0, 117, 4, 160, 0, 7, 4, 167, 0, 4]
abbrev dktX0_takeBack_0 : List UInt8 := dkwX0_takeBack_0 ++ dktX0_takeBack_1
theorem dksX0_takeBack_0 : cX0_takeBack.data.toList.drop 0 = dktX0_takeBack_0 := by decide +kernel
theorem dksX0_takeBack_1 : cX0_takeBack.data.toList.drop 24 = dktX0_takeBack_1 := dk_seg dksX0_takeBack_0 24 rfl rfl
theorem dksX0_takeBack_2 : cX0_takeBack.data.toList.drop 47 = dktX0_takeBack_2 := dk_seg dksX0_takeBack_1 23 rfl rfl
theorem dksX0_takeBack_3 : cX0_takeBack.data.toList.drop 71 = dktX0_takeBack_3 := dk_seg dksX0_takeBack_2 24 rfl rfl
theorem dksX0_takeBack_4 : cX0_takeBack.data.toList.drop 93 = dktX0_takeBack_4 := dk_seg dksX0_takeBack_3 22 rfl rfl
theorem dX0_takeBack_0 : decode cX0_takeBack 0 = .ok (.aload_n 0, 1) := dk_42 (dk_at dksX0_takeBack_0 0 rfl rfl)
theorem dX0_takeBack_1 : decode cX0_takeBack 1 = .ok (.iload_n 1, 1) := dk_27 (dk_at dksX0_takeBack_0 1 rfl rfl)
theorem dX0_takeBack_2 : decode cX0_takeBack 2 = .ok (.invokevirtual 110, 3) := dk_182 0 110 (dk_at dksX0_takeBack_0 2 rfl rfl)
theorem dX0_takeBack_5 : decode cX0_takeBack 5 = .ok (.ifCond .eq 19, 3) := dk_153 0 19 (dk_at dksX0_takeBack_0 5 rfl rfl)
theorem dX0_takeBack_8 : decode cX0_takeBack 8 = .ok (.aload_n 0, 1) := dk_42 (dk_at dksX0_takeBack_0 8 rfl rfl)
theorem dX0_takeBack_9 : decode cX0_takeBack 9 = .ok (.iload_n 1, 1) := dk_27 (dk_at dksX0_takeBack_0 9 rfl rfl)
theorem dX0_takeBack_10 : decode cX0_takeBack 10 = .ok (.invokevirtual 113, 3) := dk_182 0 113 (dk_at dksX0_takeBack_0 10 rfl rfl)
theorem dX0_takeBack_13 : decode cX0_takeBack 13 = .ok (.getfield 117, 3) := dk_180 0 117 (dk_at dksX0_takeBack_0 13 rfl rfl)
theorem dX0_takeBack_16 : decode cX0_takeBack 16 = .ok (.iconst 1, 1) := dk_4 (dk_at dksX0_takeBack_0 16 rfl rfl)
theorem dX0_takeBack_17 : decode cX0_takeBack 17 = .ok (.if_icmp .ne 7, 3) := dk_160 0 7 (dk_at dksX0_takeBack_0 17 rfl rfl)
theorem dX0_takeBack_20 : decode cX0_takeBack 20 = .ok (.iconst 1, 1) := dk_4 (dk_at dksX0_takeBack_0 20 rfl rfl)
theorem dX0_takeBack_21 : decode cX0_takeBack 21 = .ok (.goto 4, 3) := dk_167 0 4 (dk_at dksX0_takeBack_0 21 rfl rfl)
theorem dX0_takeBack_24 : decode cX0_takeBack 24 = .ok (.iconst 0, 1) := dk_3 (dk_at dksX0_takeBack_1 0 rfl rfl)
theorem dX0_takeBack_25 : decode cX0_takeBack 25 = .ok (.istore_n 2, 1) := dk_61 (dk_at dksX0_takeBack_1 1 rfl rfl)
theorem dX0_takeBack_26 : decode cX0_takeBack 26 = .ok (.aload_n 0, 1) := dk_42 (dk_at dksX0_takeBack_1 2 rfl rfl)
theorem dX0_takeBack_27 : decode cX0_takeBack 27 = .ok (.aload_n 0, 1) := dk_42 (dk_at dksX0_takeBack_1 3 rfl rfl)
theorem dX0_takeBack_28 : decode cX0_takeBack 28 = .ok (.iload_n 1, 1) := dk_27 (dk_at dksX0_takeBack_1 4 rfl rfl)
theorem dX0_takeBack_29 : decode cX0_takeBack 29 = .ok (.invokevirtual 110, 3) := dk_182 0 110 (dk_at dksX0_takeBack_1 5 rfl rfl)
theorem dX0_takeBack_32 : decode cX0_takeBack 32 = .ok (.ifCond .ne 7, 3) := dk_154 0 7 (dk_at dksX0_takeBack_1 8 rfl rfl)
theorem dX0_takeBack_35 : decode cX0_takeBack 35 = .ok (.iconst (-1), 1) := dk_2 (dk_at dksX0_takeBack_1 11 rfl rfl)
theorem dX0_takeBack_36 : decode cX0_takeBack 36 = .ok (.goto 13, 3) := dk_167 0 13 (dk_at dksX0_takeBack_1 12 rfl rfl)
theorem dX0_takeBack_39 : decode cX0_takeBack 39 = .ok (.iload_n 2, 1) := dk_28 (dk_at dksX0_takeBack_1 15 rfl rfl)
theorem dX0_takeBack_40 : decode cX0_takeBack 40 = .ok (.ifCond .eq 7, 3) := dk_153 0 7 (dk_at dksX0_takeBack_1 16 rfl rfl)
theorem dX0_takeBack_43 : decode cX0_takeBack 43 = .ok (.iconst 0, 1) := dk_3 (dk_at dksX0_takeBack_1 19 rfl rfl)
theorem dX0_takeBack_44 : decode cX0_takeBack 44 = .ok (.goto 5, 3) := dk_167 0 5 (dk_at dksX0_takeBack_1 20 rfl rfl)
theorem dX0_takeBack_47 : decode cX0_takeBack 47 = .ok (.bipush (-5), 2) := dk_16 251 (dk_at dksX0_takeBack_2 0 rfl rfl)
theorem dX0_takeBack_49 : decode cX0_takeBack 49 = .ok (.iconst 1, 1) := dk_4 (dk_at dksX0_takeBack_2 2 rfl rfl)
theorem dX0_takeBack_50 : decode cX0_takeBack 50 = .ok (.invokevirtual 141, 3) := dk_182 0 141 (dk_at dksX0_takeBack_2 3 rfl rfl)
theorem dX0_takeBack_53 : decode cX0_takeBack 53 = .ok (.istore_n 3, 1) := dk_62 (dk_at dksX0_takeBack_2 6 rfl rfl)
theorem dX0_takeBack_54 : decode cX0_takeBack 54 = .ok (.iload_n 3, 1) := dk_29 (dk_at dksX0_takeBack_2 7 rfl rfl)
theorem dX0_takeBack_55 : decode cX0_takeBack 55 = .ok (.ifCond .ge 5, 3) := dk_156 0 5 (dk_at dksX0_takeBack_2 8 rfl rfl)
theorem dX0_takeBack_58 : decode cX0_takeBack 58 = .ok (.iload_n 3, 1) := dk_29 (dk_at dksX0_takeBack_2 11 rfl rfl)
theorem dX0_takeBack_59 : decode cX0_takeBack 59 = .ok (.ireturn, 1) := dk_172 (dk_at dksX0_takeBack_2 12 rfl rfl)
theorem dX0_takeBack_60 : decode cX0_takeBack 60 = .ok (.aload_n 0, 1) := dk_42 (dk_at dksX0_takeBack_2 13 rfl rfl)
theorem dX0_takeBack_61 : decode cX0_takeBack 61 = .ok (.iload_n 1, 1) := dk_27 (dk_at dksX0_takeBack_2 14 rfl rfl)
theorem dX0_takeBack_62 : decode cX0_takeBack 62 = .ok (.invokevirtual 113, 3) := dk_182 0 113 (dk_at dksX0_takeBack_2 15 rfl rfl)
theorem dX0_takeBack_65 : decode cX0_takeBack 65 = .ok (.getfield 195, 3) := dk_180 0 195 (dk_at dksX0_takeBack_2 18 rfl rfl)
theorem dX0_takeBack_68 : decode cX0_takeBack 68 = .ok (.istore 4, 2) := dk_54 4 (dk_at dksX0_takeBack_2 21 rfl rfl)
theorem dX0_takeBack_70 : decode cX0_takeBack 70 = .ok (.aload_n 0, 1) := dk_42 (dk_at dksX0_takeBack_2 23 rfl rfl)
theorem dX0_takeBack_71 : decode cX0_takeBack 71 = .ok (.iload 4, 2) := dk_21 4 (dk_at dksX0_takeBack_3 0 rfl rfl)
theorem dX0_takeBack_73 : decode cX0_takeBack 73 = .ok (.invokevirtual 92, 3) := dk_182 0 92 (dk_at dksX0_takeBack_3 2 rfl rfl)
theorem dX0_takeBack_76 : decode cX0_takeBack 76 = .ok (.bipush (-6), 2) := dk_16 250 (dk_at dksX0_takeBack_3 5 rfl rfl)
theorem dX0_takeBack_78 : decode cX0_takeBack 78 = .ok (.putfield 84, 3) := dk_181 0 84 (dk_at dksX0_takeBack_3 7 rfl rfl)
theorem dX0_takeBack_81 : decode cX0_takeBack 81 = .ok (.aload_n 0, 1) := dk_42 (dk_at dksX0_takeBack_3 10 rfl rfl)
theorem dX0_takeBack_82 : decode cX0_takeBack 82 = .ok (.iload_n 1, 1) := dk_27 (dk_at dksX0_takeBack_3 11 rfl rfl)
theorem dX0_takeBack_83 : decode cX0_takeBack 83 = .ok (.invokevirtual 113, 3) := dk_182 0 113 (dk_at dksX0_takeBack_3 12 rfl rfl)
theorem dX0_takeBack_86 : decode cX0_takeBack 86 = .ok (.bipush (-6), 2) := dk_16 250 (dk_at dksX0_takeBack_3 15 rfl rfl)
theorem dX0_takeBack_88 : decode cX0_takeBack 88 = .ok (.putfield 195, 3) := dk_181 0 195 (dk_at dksX0_takeBack_3 17 rfl rfl)
theorem dX0_takeBack_91 : decode cX0_takeBack 91 = .ok (.aload_n 0, 1) := dk_42 (dk_at dksX0_takeBack_3 20 rfl rfl)
theorem dX0_takeBack_92 : decode cX0_takeBack 92 = .ok (.iload_n 1, 1) := dk_27 (dk_at dksX0_takeBack_3 21 rfl rfl)
theorem dX0_takeBack_93 : decode cX0_takeBack 93 = .ok (.invokevirtual 113, 3) := dk_182 0 113 (dk_at dksX0_takeBack_4 0 rfl rfl)
theorem dX0_takeBack_96 : decode cX0_takeBack 96 = .ok (.iconst 0, 1) := dk_3 (dk_at dksX0_takeBack_4 3 rfl rfl)
theorem dX0_takeBack_97 : decode cX0_takeBack 97 = .ok (.putfield 117, 3) := dk_181 0 117 (dk_at dksX0_takeBack_4 4 rfl rfl)
theorem dX0_takeBack_100 : decode cX0_takeBack 100 = .ok (.iload 4, 2) := dk_21 4 (dk_at dksX0_takeBack_4 7 rfl rfl)
theorem dX0_takeBack_102 : decode cX0_takeBack 102 = .ok (.ireturn, 1) := dk_172 (dk_at dksX0_takeBack_4 9 rfl rfl)
abbrev cX0_limits : ByteArray := prog_1_method_30_code
def yX0_limits : MethodName := ⟨RX0, "limits", "(IIII)I"⟩
def dkwX0_limits_2 : List UInt8 := [180, 0, 16, 180, 0, 208, 27, 29, 79, 42, 180, 0, 16, 180, 0, 211, 27, 21, 4, 79, 4, 172]
abbrev dktX0_limits_2 : List UInt8 := dkwX0_limits_2 ++ []
def dkwX0_limits_1 : List UInt8 := [182, 0, 141, 54, 5, 21, 5, 156, 0, 6, 21, 5, 172, 42, 180, 0, 16, 180, 0, 205, 27, 28, 79, 42]
abbrev dktX0_limits_1 : List UInt8 := dkwX0_limits_1 ++ dktX0_limits_2
def dkwX0_limits_0 : List UInt8 := [42, 42, 27, 6, 188, 10, 89, 3, 28, 79, 89, 4, 29, 79, 89, 5, 21, 4, 79, 182, 0, 202, 4]
abbrev dktX0_limits_0 : List UInt8 := dkwX0_limits_0 ++ dktX0_limits_1
theorem dksX0_limits_0 : cX0_limits.data.toList.drop 0 = dktX0_limits_0 := by decide +kernel
theorem dksX0_limits_1 : cX0_limits.data.toList.drop 23 = dktX0_limits_1 := dk_seg dksX0_limits_0 23 rfl rfl
theorem dksX0_limits_2 : cX0_limits.data.toList.drop 47 = dktX0_limits_2 := dk_seg dksX0_limits_1 24 rfl rfl
theorem dX0_limits_0 : decode cX0_limits 0 = .ok (.aload_n 0, 1) := dk_42 (dk_at dksX0_limits_0 0 rfl rfl)
theorem dX0_limits_1 : decode cX0_limits 1 = .ok (.aload_n 0, 1) := dk_42 (dk_at dksX0_limits_0 1 rfl rfl)
theorem dX0_limits_2 : decode cX0_limits 2 = .ok (.iload_n 1, 1) := dk_27 (dk_at dksX0_limits_0 2 rfl rfl)
theorem dX0_limits_3 : decode cX0_limits 3 = .ok (.iconst 3, 1) := dk_6 (dk_at dksX0_limits_0 3 rfl rfl)
theorem dX0_limits_4 : decode cX0_limits 4 = .ok (.newarray .int, 2) := dk_188_10 (dk_at dksX0_limits_0 4 rfl rfl)
theorem dX0_limits_6 : decode cX0_limits 6 = .ok (.dup, 1) := dk_89 (dk_at dksX0_limits_0 6 rfl rfl)
theorem dX0_limits_7 : decode cX0_limits 7 = .ok (.iconst 0, 1) := dk_3 (dk_at dksX0_limits_0 7 rfl rfl)
theorem dX0_limits_8 : decode cX0_limits 8 = .ok (.iload_n 2, 1) := dk_28 (dk_at dksX0_limits_0 8 rfl rfl)
theorem dX0_limits_9 : decode cX0_limits 9 = .ok (.iastore, 1) := dk_79 (dk_at dksX0_limits_0 9 rfl rfl)
theorem dX0_limits_10 : decode cX0_limits 10 = .ok (.dup, 1) := dk_89 (dk_at dksX0_limits_0 10 rfl rfl)
theorem dX0_limits_11 : decode cX0_limits 11 = .ok (.iconst 1, 1) := dk_4 (dk_at dksX0_limits_0 11 rfl rfl)
theorem dX0_limits_12 : decode cX0_limits 12 = .ok (.iload_n 3, 1) := dk_29 (dk_at dksX0_limits_0 12 rfl rfl)
theorem dX0_limits_13 : decode cX0_limits 13 = .ok (.iastore, 1) := dk_79 (dk_at dksX0_limits_0 13 rfl rfl)
theorem dX0_limits_14 : decode cX0_limits 14 = .ok (.dup, 1) := dk_89 (dk_at dksX0_limits_0 14 rfl rfl)
theorem dX0_limits_15 : decode cX0_limits 15 = .ok (.iconst 2, 1) := dk_5 (dk_at dksX0_limits_0 15 rfl rfl)
theorem dX0_limits_16 : decode cX0_limits 16 = .ok (.iload 4, 2) := dk_21 4 (dk_at dksX0_limits_0 16 rfl rfl)
theorem dX0_limits_18 : decode cX0_limits 18 = .ok (.iastore, 1) := dk_79 (dk_at dksX0_limits_0 18 rfl rfl)
theorem dX0_limits_19 : decode cX0_limits 19 = .ok (.invokevirtual 202, 3) := dk_182 0 202 (dk_at dksX0_limits_0 19 rfl rfl)
theorem dX0_limits_22 : decode cX0_limits 22 = .ok (.iconst 1, 1) := dk_4 (dk_at dksX0_limits_0 22 rfl rfl)
theorem dX0_limits_23 : decode cX0_limits 23 = .ok (.invokevirtual 141, 3) := dk_182 0 141 (dk_at dksX0_limits_1 0 rfl rfl)
theorem dX0_limits_26 : decode cX0_limits 26 = .ok (.istore 5, 2) := dk_54 5 (dk_at dksX0_limits_1 3 rfl rfl)
theorem dX0_limits_28 : decode cX0_limits 28 = .ok (.iload 5, 2) := dk_21 5 (dk_at dksX0_limits_1 5 rfl rfl)
theorem dX0_limits_30 : decode cX0_limits 30 = .ok (.ifCond .ge 6, 3) := dk_156 0 6 (dk_at dksX0_limits_1 7 rfl rfl)
theorem dX0_limits_33 : decode cX0_limits 33 = .ok (.iload 5, 2) := dk_21 5 (dk_at dksX0_limits_1 10 rfl rfl)
theorem dX0_limits_35 : decode cX0_limits 35 = .ok (.ireturn, 1) := dk_172 (dk_at dksX0_limits_1 12 rfl rfl)
theorem dX0_limits_36 : decode cX0_limits 36 = .ok (.aload_n 0, 1) := dk_42 (dk_at dksX0_limits_1 13 rfl rfl)
theorem dX0_limits_37 : decode cX0_limits 37 = .ok (.getfield 16, 3) := dk_180 0 16 (dk_at dksX0_limits_1 14 rfl rfl)
theorem dX0_limits_40 : decode cX0_limits 40 = .ok (.getfield 205, 3) := dk_180 0 205 (dk_at dksX0_limits_1 17 rfl rfl)
theorem dX0_limits_43 : decode cX0_limits 43 = .ok (.iload_n 1, 1) := dk_27 (dk_at dksX0_limits_1 20 rfl rfl)
theorem dX0_limits_44 : decode cX0_limits 44 = .ok (.iload_n 2, 1) := dk_28 (dk_at dksX0_limits_1 21 rfl rfl)
theorem dX0_limits_45 : decode cX0_limits 45 = .ok (.iastore, 1) := dk_79 (dk_at dksX0_limits_1 22 rfl rfl)
theorem dX0_limits_46 : decode cX0_limits 46 = .ok (.aload_n 0, 1) := dk_42 (dk_at dksX0_limits_1 23 rfl rfl)
theorem dX0_limits_47 : decode cX0_limits 47 = .ok (.getfield 16, 3) := dk_180 0 16 (dk_at dksX0_limits_2 0 rfl rfl)
theorem dX0_limits_50 : decode cX0_limits 50 = .ok (.getfield 208, 3) := dk_180 0 208 (dk_at dksX0_limits_2 3 rfl rfl)
theorem dX0_limits_53 : decode cX0_limits 53 = .ok (.iload_n 1, 1) := dk_27 (dk_at dksX0_limits_2 6 rfl rfl)
theorem dX0_limits_54 : decode cX0_limits 54 = .ok (.iload_n 3, 1) := dk_29 (dk_at dksX0_limits_2 7 rfl rfl)
theorem dX0_limits_55 : decode cX0_limits 55 = .ok (.iastore, 1) := dk_79 (dk_at dksX0_limits_2 8 rfl rfl)
theorem dX0_limits_56 : decode cX0_limits 56 = .ok (.aload_n 0, 1) := dk_42 (dk_at dksX0_limits_2 9 rfl rfl)
theorem dX0_limits_57 : decode cX0_limits 57 = .ok (.getfield 16, 3) := dk_180 0 16 (dk_at dksX0_limits_2 10 rfl rfl)
theorem dX0_limits_60 : decode cX0_limits 60 = .ok (.getfield 211, 3) := dk_180 0 211 (dk_at dksX0_limits_2 13 rfl rfl)
theorem dX0_limits_63 : decode cX0_limits 63 = .ok (.iload_n 1, 1) := dk_27 (dk_at dksX0_limits_2 16 rfl rfl)
theorem dX0_limits_64 : decode cX0_limits 64 = .ok (.iload 4, 2) := dk_21 4 (dk_at dksX0_limits_2 17 rfl rfl)
theorem dX0_limits_66 : decode cX0_limits 66 = .ok (.iastore, 1) := dk_79 (dk_at dksX0_limits_2 19 rfl rfl)
theorem dX0_limits_67 : decode cX0_limits 67 = .ok (.iconst 1, 1) := dk_4 (dk_at dksX0_limits_2 20 rfl rfl)
theorem dX0_limits_68 : decode cX0_limits 68 = .ok (.ireturn, 1) := dk_172 (dk_at dksX0_limits_2 21 rfl rfl)
abbrev cX0_whyNotLimits : ByteArray := prog_1_method_16_code
def yX0_whyNotLimits : MethodName := ⟨RX0, "whyNotLimits", "(I[I)I"⟩
def dkwX0_whyNotLimits_2 : List UInt8 := [153, 0, 7, 29, 167, 0, 5, 16, 254, 62, 132, 6, 1, 167, 255, 219, 29, 172]
abbrev dktX0_whyNotLimits_2 : List UInt8 := dkwX0_whyNotLimits_2 ++ []
def dkwX0_whyNotLimits_1 : List UInt8 := [21, 5, 162, 0, 36, 25, 4, 21, 6, 46, 54, 7, 21, 7, 16, 100, 17, 117, 48, 184, 0, 3]
abbrev dktX0_whyNotLimits_1 : List UInt8 := dkwX0_whyNotLimits_1 ++ dktX0_whyNotLimits_2
def dkwX0_whyNotLimits_0 : List UInt8 := [27, 184, 0, 124, 154, 0, 5, 2, 172, 3, 62, 44, 58, 4, 25, 4, 190, 54, 5, 3, 54, 6, 21, 6]
abbrev dktX0_whyNotLimits_0 : List UInt8 := dkwX0_whyNotLimits_0 ++ dktX0_whyNotLimits_1
theorem dksX0_whyNotLimits_0 : cX0_whyNotLimits.data.toList.drop 0 = dktX0_whyNotLimits_0 := by decide +kernel
theorem dksX0_whyNotLimits_1 : cX0_whyNotLimits.data.toList.drop 24 = dktX0_whyNotLimits_1 := dk_seg dksX0_whyNotLimits_0 24 rfl rfl
theorem dksX0_whyNotLimits_2 : cX0_whyNotLimits.data.toList.drop 46 = dktX0_whyNotLimits_2 := dk_seg dksX0_whyNotLimits_1 22 rfl rfl
theorem dX0_whyNotLimits_0 : decode cX0_whyNotLimits 0 = .ok (.iload_n 1, 1) := dk_27 (dk_at dksX0_whyNotLimits_0 0 rfl rfl)
theorem dX0_whyNotLimits_1 : decode cX0_whyNotLimits 1 = .ok (.invokestatic 124, 3) := dk_184 0 124 (dk_at dksX0_whyNotLimits_0 1 rfl rfl)
theorem dX0_whyNotLimits_4 : decode cX0_whyNotLimits 4 = .ok (.ifCond .ne 5, 3) := dk_154 0 5 (dk_at dksX0_whyNotLimits_0 4 rfl rfl)
theorem dX0_whyNotLimits_7 : decode cX0_whyNotLimits 7 = .ok (.iconst (-1), 1) := dk_2 (dk_at dksX0_whyNotLimits_0 7 rfl rfl)
theorem dX0_whyNotLimits_8 : decode cX0_whyNotLimits 8 = .ok (.ireturn, 1) := dk_172 (dk_at dksX0_whyNotLimits_0 8 rfl rfl)
theorem dX0_whyNotLimits_9 : decode cX0_whyNotLimits 9 = .ok (.iconst 0, 1) := dk_3 (dk_at dksX0_whyNotLimits_0 9 rfl rfl)
theorem dX0_whyNotLimits_10 : decode cX0_whyNotLimits 10 = .ok (.istore_n 3, 1) := dk_62 (dk_at dksX0_whyNotLimits_0 10 rfl rfl)
theorem dX0_whyNotLimits_11 : decode cX0_whyNotLimits 11 = .ok (.aload_n 2, 1) := dk_44 (dk_at dksX0_whyNotLimits_0 11 rfl rfl)
theorem dX0_whyNotLimits_12 : decode cX0_whyNotLimits 12 = .ok (.astore 4, 2) := dk_58 4 (dk_at dksX0_whyNotLimits_0 12 rfl rfl)
theorem dX0_whyNotLimits_14 : decode cX0_whyNotLimits 14 = .ok (.aload 4, 2) := dk_25 4 (dk_at dksX0_whyNotLimits_0 14 rfl rfl)
theorem dX0_whyNotLimits_16 : decode cX0_whyNotLimits 16 = .ok (.arraylength, 1) := dk_190 (dk_at dksX0_whyNotLimits_0 16 rfl rfl)
theorem dX0_whyNotLimits_17 : decode cX0_whyNotLimits 17 = .ok (.istore 5, 2) := dk_54 5 (dk_at dksX0_whyNotLimits_0 17 rfl rfl)
theorem dX0_whyNotLimits_19 : decode cX0_whyNotLimits 19 = .ok (.iconst 0, 1) := dk_3 (dk_at dksX0_whyNotLimits_0 19 rfl rfl)
theorem dX0_whyNotLimits_20 : decode cX0_whyNotLimits 20 = .ok (.istore 6, 2) := dk_54 6 (dk_at dksX0_whyNotLimits_0 20 rfl rfl)
theorem dX0_whyNotLimits_22 : decode cX0_whyNotLimits 22 = .ok (.iload 6, 2) := dk_21 6 (dk_at dksX0_whyNotLimits_0 22 rfl rfl)
theorem dX0_whyNotLimits_24 : decode cX0_whyNotLimits 24 = .ok (.iload 5, 2) := dk_21 5 (dk_at dksX0_whyNotLimits_1 0 rfl rfl)
theorem dX0_whyNotLimits_26 : decode cX0_whyNotLimits 26 = .ok (.if_icmp .ge 36, 3) := dk_162 0 36 (dk_at dksX0_whyNotLimits_1 2 rfl rfl)
theorem dX0_whyNotLimits_29 : decode cX0_whyNotLimits 29 = .ok (.aload 4, 2) := dk_25 4 (dk_at dksX0_whyNotLimits_1 5 rfl rfl)
theorem dX0_whyNotLimits_31 : decode cX0_whyNotLimits 31 = .ok (.iload 6, 2) := dk_21 6 (dk_at dksX0_whyNotLimits_1 7 rfl rfl)
theorem dX0_whyNotLimits_33 : decode cX0_whyNotLimits 33 = .ok (.iaload, 1) := dk_46 (dk_at dksX0_whyNotLimits_1 9 rfl rfl)
theorem dX0_whyNotLimits_34 : decode cX0_whyNotLimits 34 = .ok (.istore 7, 2) := dk_54 7 (dk_at dksX0_whyNotLimits_1 10 rfl rfl)
theorem dX0_whyNotLimits_36 : decode cX0_whyNotLimits 36 = .ok (.iload 7, 2) := dk_21 7 (dk_at dksX0_whyNotLimits_1 12 rfl rfl)
theorem dX0_whyNotLimits_38 : decode cX0_whyNotLimits 38 = .ok (.bipush 100, 2) := dk_16 100 (dk_at dksX0_whyNotLimits_1 14 rfl rfl)
theorem dX0_whyNotLimits_40 : decode cX0_whyNotLimits 40 = .ok (.sipush 30000, 3) := dk_17 117 48 (dk_at dksX0_whyNotLimits_1 16 rfl rfl)
theorem dX0_whyNotLimits_43 : decode cX0_whyNotLimits 43 = .ok (.invokestatic 3, 3) := dk_184 0 3 (dk_at dksX0_whyNotLimits_1 19 rfl rfl)
theorem dX0_whyNotLimits_46 : decode cX0_whyNotLimits 46 = .ok (.ifCond .eq 7, 3) := dk_153 0 7 (dk_at dksX0_whyNotLimits_2 0 rfl rfl)
theorem dX0_whyNotLimits_49 : decode cX0_whyNotLimits 49 = .ok (.iload_n 3, 1) := dk_29 (dk_at dksX0_whyNotLimits_2 3 rfl rfl)
theorem dX0_whyNotLimits_50 : decode cX0_whyNotLimits 50 = .ok (.goto 5, 3) := dk_167 0 5 (dk_at dksX0_whyNotLimits_2 4 rfl rfl)
theorem dX0_whyNotLimits_53 : decode cX0_whyNotLimits 53 = .ok (.bipush (-2), 2) := dk_16 254 (dk_at dksX0_whyNotLimits_2 7 rfl rfl)
theorem dX0_whyNotLimits_55 : decode cX0_whyNotLimits 55 = .ok (.istore_n 3, 1) := dk_62 (dk_at dksX0_whyNotLimits_2 9 rfl rfl)
theorem dX0_whyNotLimits_56 : decode cX0_whyNotLimits 56 = .ok (.iinc 6 1, 3) := dk_132 6 1 (dk_at dksX0_whyNotLimits_2 10 rfl rfl)
theorem dX0_whyNotLimits_59 : decode cX0_whyNotLimits 59 = .ok (.goto (-37), 3) := dk_167 255 219 (dk_at dksX0_whyNotLimits_2 13 rfl rfl)
theorem dX0_whyNotLimits_62 : decode cX0_whyNotLimits 62 = .ok (.iload_n 3, 1) := dk_29 (dk_at dksX0_whyNotLimits_2 16 rfl rfl)
theorem dX0_whyNotLimits_63 : decode cX0_whyNotLimits 63 = .ok (.ireturn, 1) := dk_172 (dk_at dksX0_whyNotLimits_2 17 rfl rfl)
abbrev cX0_isLorry : ByteArray := prog_1_method_7_code
def yX0_isLorry : MethodName := ⟨RX0, "isLorry", "(I)Z"⟩
def dkwX0_isLorry_0 : List UInt8 := [26, 3, 5, 184, 0, 3, 172]
abbrev dktX0_isLorry_0 : List UInt8 := dkwX0_isLorry_0 ++ []
theorem dksX0_isLorry_0 : cX0_isLorry.data.toList.drop 0 = dktX0_isLorry_0 := by decide +kernel
theorem dX0_isLorry_0 : decode cX0_isLorry 0 = .ok (.iload_n 0, 1) := dk_26 (dk_at dksX0_isLorry_0 0 rfl rfl)
theorem dX0_isLorry_1 : decode cX0_isLorry 1 = .ok (.iconst 0, 1) := dk_3 (dk_at dksX0_isLorry_0 1 rfl rfl)
theorem dX0_isLorry_2 : decode cX0_isLorry 2 = .ok (.iconst 2, 1) := dk_5 (dk_at dksX0_isLorry_0 2 rfl rfl)
theorem dX0_isLorry_3 : decode cX0_isLorry 3 = .ok (.invokestatic 3, 3) := dk_184 0 3 (dk_at dksX0_isLorry_0 3 rfl rfl)
theorem dX0_isLorry_6 : decode cX0_isLorry 6 = .ok (.ireturn, 1) := dk_172 (dk_at dksX0_isLorry_0 6 rfl rfl)
abbrev cX0_load : ByteArray := prog_1_method_32_code
def yX0_load : MethodName := ⟨RX0, "load", "(III)I"⟩
def dkwX0_load_0 : List UInt8 := [42, 27, 28, 29, 4, 182, 0, 223, 172]
abbrev dktX0_load_0 : List UInt8 := dkwX0_load_0 ++ []
theorem dksX0_load_0 : cX0_load.data.toList.drop 0 = dktX0_load_0 := by decide +kernel
theorem dX0_load_0 : decode cX0_load 0 = .ok (.aload_n 0, 1) := dk_42 (dk_at dksX0_load_0 0 rfl rfl)
theorem dX0_load_1 : decode cX0_load 1 = .ok (.iload_n 1, 1) := dk_27 (dk_at dksX0_load_0 1 rfl rfl)
theorem dX0_load_2 : decode cX0_load 2 = .ok (.iload_n 2, 1) := dk_28 (dk_at dksX0_load_0 2 rfl rfl)
theorem dX0_load_3 : decode cX0_load 3 = .ok (.iload_n 3, 1) := dk_29 (dk_at dksX0_load_0 3 rfl rfl)
theorem dX0_load_4 : decode cX0_load 4 = .ok (.iconst 1, 1) := dk_4 (dk_at dksX0_load_0 4 rfl rfl)
theorem dX0_load_5 : decode cX0_load 5 = .ok (.invokevirtual 223, 3) := dk_182 0 223 (dk_at dksX0_load_0 5 rfl rfl)
theorem dX0_load_8 : decode cX0_load 8 = .ok (.ireturn, 1) := dk_172 (dk_at dksX0_load_0 8 rfl rfl)
abbrev cX0_loads : ByteArray := prog_1_method_31_code
def yX0_loads : MethodName := ⟨RX0, "loads", "(IIIZ)I"⟩
def dkwX0_loads_2 : List UInt8 := [180, 0, 16, 28, 182, 0, 220, 172]
abbrev dktX0_loads_2 : List UInt8 := dkwX0_loads_2 ++ []
def dkwX0_loads_1 : List UInt8 := [27, 182, 0, 92, 5, 181, 0, 104, 42, 27, 182, 0, 92, 8, 28, 104, 29, 96, 181, 0, 217, 42]
abbrev dktX0_loads_1 : List UInt8 := dkwX0_loads_1 ++ dktX0_loads_2
def dkwX0_loads_0 : List UInt8 := [42, 42, 27, 28, 29, 182, 0, 214, 21, 4, 182, 0, 141, 54, 5, 21, 5, 156, 0, 6, 21, 5, 172, 42]
abbrev dktX0_loads_0 : List UInt8 := dkwX0_loads_0 ++ dktX0_loads_1
theorem dksX0_loads_0 : cX0_loads.data.toList.drop 0 = dktX0_loads_0 := by decide +kernel
theorem dksX0_loads_1 : cX0_loads.data.toList.drop 24 = dktX0_loads_1 := dk_seg dksX0_loads_0 24 rfl rfl
theorem dksX0_loads_2 : cX0_loads.data.toList.drop 46 = dktX0_loads_2 := dk_seg dksX0_loads_1 22 rfl rfl
theorem dX0_loads_0 : decode cX0_loads 0 = .ok (.aload_n 0, 1) := dk_42 (dk_at dksX0_loads_0 0 rfl rfl)
theorem dX0_loads_1 : decode cX0_loads 1 = .ok (.aload_n 0, 1) := dk_42 (dk_at dksX0_loads_0 1 rfl rfl)
theorem dX0_loads_2 : decode cX0_loads 2 = .ok (.iload_n 1, 1) := dk_27 (dk_at dksX0_loads_0 2 rfl rfl)
theorem dX0_loads_3 : decode cX0_loads 3 = .ok (.iload_n 2, 1) := dk_28 (dk_at dksX0_loads_0 3 rfl rfl)
theorem dX0_loads_4 : decode cX0_loads 4 = .ok (.iload_n 3, 1) := dk_29 (dk_at dksX0_loads_0 4 rfl rfl)
theorem dX0_loads_5 : decode cX0_loads 5 = .ok (.invokevirtual 214, 3) := dk_182 0 214 (dk_at dksX0_loads_0 5 rfl rfl)
theorem dX0_loads_8 : decode cX0_loads 8 = .ok (.iload 4, 2) := dk_21 4 (dk_at dksX0_loads_0 8 rfl rfl)
theorem dX0_loads_10 : decode cX0_loads 10 = .ok (.invokevirtual 141, 3) := dk_182 0 141 (dk_at dksX0_loads_0 10 rfl rfl)
theorem dX0_loads_13 : decode cX0_loads 13 = .ok (.istore 5, 2) := dk_54 5 (dk_at dksX0_loads_0 13 rfl rfl)
theorem dX0_loads_15 : decode cX0_loads 15 = .ok (.iload 5, 2) := dk_21 5 (dk_at dksX0_loads_0 15 rfl rfl)
theorem dX0_loads_17 : decode cX0_loads 17 = .ok (.ifCond .ge 6, 3) := dk_156 0 6 (dk_at dksX0_loads_0 17 rfl rfl)
theorem dX0_loads_20 : decode cX0_loads 20 = .ok (.iload 5, 2) := dk_21 5 (dk_at dksX0_loads_0 20 rfl rfl)
theorem dX0_loads_22 : decode cX0_loads 22 = .ok (.ireturn, 1) := dk_172 (dk_at dksX0_loads_0 22 rfl rfl)
theorem dX0_loads_23 : decode cX0_loads 23 = .ok (.aload_n 0, 1) := dk_42 (dk_at dksX0_loads_0 23 rfl rfl)
theorem dX0_loads_24 : decode cX0_loads 24 = .ok (.iload_n 1, 1) := dk_27 (dk_at dksX0_loads_1 0 rfl rfl)
theorem dX0_loads_25 : decode cX0_loads 25 = .ok (.invokevirtual 92, 3) := dk_182 0 92 (dk_at dksX0_loads_1 1 rfl rfl)
theorem dX0_loads_28 : decode cX0_loads 28 = .ok (.iconst 2, 1) := dk_5 (dk_at dksX0_loads_1 4 rfl rfl)
theorem dX0_loads_29 : decode cX0_loads 29 = .ok (.putfield 104, 3) := dk_181 0 104 (dk_at dksX0_loads_1 5 rfl rfl)
theorem dX0_loads_32 : decode cX0_loads 32 = .ok (.aload_n 0, 1) := dk_42 (dk_at dksX0_loads_1 8 rfl rfl)
theorem dX0_loads_33 : decode cX0_loads 33 = .ok (.iload_n 1, 1) := dk_27 (dk_at dksX0_loads_1 9 rfl rfl)
theorem dX0_loads_34 : decode cX0_loads 34 = .ok (.invokevirtual 92, 3) := dk_182 0 92 (dk_at dksX0_loads_1 10 rfl rfl)
theorem dX0_loads_37 : decode cX0_loads 37 = .ok (.iconst 5, 1) := dk_8 (dk_at dksX0_loads_1 13 rfl rfl)
theorem dX0_loads_38 : decode cX0_loads 38 = .ok (.iload_n 2, 1) := dk_28 (dk_at dksX0_loads_1 14 rfl rfl)
theorem dX0_loads_39 : decode cX0_loads 39 = .ok (.imul, 1) := dk_104 (dk_at dksX0_loads_1 15 rfl rfl)
theorem dX0_loads_40 : decode cX0_loads 40 = .ok (.iload_n 3, 1) := dk_29 (dk_at dksX0_loads_1 16 rfl rfl)
theorem dX0_loads_41 : decode cX0_loads 41 = .ok (.iadd, 1) := dk_96 (dk_at dksX0_loads_1 17 rfl rfl)
theorem dX0_loads_42 : decode cX0_loads 42 = .ok (.putfield 217, 3) := dk_181 0 217 (dk_at dksX0_loads_1 18 rfl rfl)
theorem dX0_loads_45 : decode cX0_loads 45 = .ok (.aload_n 0, 1) := dk_42 (dk_at dksX0_loads_1 21 rfl rfl)
theorem dX0_loads_46 : decode cX0_loads 46 = .ok (.getfield 16, 3) := dk_180 0 16 (dk_at dksX0_loads_2 0 rfl rfl)
theorem dX0_loads_49 : decode cX0_loads 49 = .ok (.iload_n 2, 1) := dk_28 (dk_at dksX0_loads_2 3 rfl rfl)
theorem dX0_loads_50 : decode cX0_loads 50 = .ok (.invokevirtual 220, 3) := dk_182 0 220 (dk_at dksX0_loads_2 4 rfl rfl)
theorem dX0_loads_53 : decode cX0_loads 53 = .ok (.ireturn, 1) := dk_172 (dk_at dksX0_loads_2 7 rfl rfl)
abbrev cX0_whyNotLoad : ByteArray := prog_1_method_17_code
def yX0_whyNotLoad : MethodName := ⟨RX0, "whyNotLoad", "(III)I"⟩
def dkwX0_whyNotLoad_2 : List UInt8 := [198, 0, 8, 16, 251, 167, 0, 4, 3, 172]
abbrev dktX0_whyNotLoad_2 : List UInt8 := dkwX0_whyNotLoad_2 ++ []
def dkwX0_whyNotLoad_1 : List UInt8 := [2, 172, 42, 27, 182, 0, 92, 182, 0, 80, 153, 0, 15, 42, 180, 0, 16, 28, 29, 182, 0, 127]
abbrev dktX0_whyNotLoad_1 : List UInt8 := dkwX0_whyNotLoad_1 ++ dktX0_whyNotLoad_2
def dkwX0_whyNotLoad_0 : List UInt8 := [42, 27, 182, 0, 88, 153, 0, 19, 28, 184, 0, 124, 153, 0, 12, 29, 3, 7, 184, 0, 3, 154, 0, 5]
abbrev dktX0_whyNotLoad_0 : List UInt8 := dkwX0_whyNotLoad_0 ++ dktX0_whyNotLoad_1
theorem dksX0_whyNotLoad_0 : cX0_whyNotLoad.data.toList.drop 0 = dktX0_whyNotLoad_0 := by decide +kernel
theorem dksX0_whyNotLoad_1 : cX0_whyNotLoad.data.toList.drop 24 = dktX0_whyNotLoad_1 := dk_seg dksX0_whyNotLoad_0 24 rfl rfl
theorem dksX0_whyNotLoad_2 : cX0_whyNotLoad.data.toList.drop 46 = dktX0_whyNotLoad_2 := dk_seg dksX0_whyNotLoad_1 22 rfl rfl
theorem dX0_whyNotLoad_0 : decode cX0_whyNotLoad 0 = .ok (.aload_n 0, 1) := dk_42 (dk_at dksX0_whyNotLoad_0 0 rfl rfl)
theorem dX0_whyNotLoad_1 : decode cX0_whyNotLoad 1 = .ok (.iload_n 1, 1) := dk_27 (dk_at dksX0_whyNotLoad_0 1 rfl rfl)
theorem dX0_whyNotLoad_2 : decode cX0_whyNotLoad 2 = .ok (.invokevirtual 88, 3) := dk_182 0 88 (dk_at dksX0_whyNotLoad_0 2 rfl rfl)
theorem dX0_whyNotLoad_5 : decode cX0_whyNotLoad 5 = .ok (.ifCond .eq 19, 3) := dk_153 0 19 (dk_at dksX0_whyNotLoad_0 5 rfl rfl)
theorem dX0_whyNotLoad_8 : decode cX0_whyNotLoad 8 = .ok (.iload_n 2, 1) := dk_28 (dk_at dksX0_whyNotLoad_0 8 rfl rfl)
theorem dX0_whyNotLoad_9 : decode cX0_whyNotLoad 9 = .ok (.invokestatic 124, 3) := dk_184 0 124 (dk_at dksX0_whyNotLoad_0 9 rfl rfl)
theorem dX0_whyNotLoad_12 : decode cX0_whyNotLoad 12 = .ok (.ifCond .eq 12, 3) := dk_153 0 12 (dk_at dksX0_whyNotLoad_0 12 rfl rfl)
theorem dX0_whyNotLoad_15 : decode cX0_whyNotLoad 15 = .ok (.iload_n 3, 1) := dk_29 (dk_at dksX0_whyNotLoad_0 15 rfl rfl)
theorem dX0_whyNotLoad_16 : decode cX0_whyNotLoad 16 = .ok (.iconst 0, 1) := dk_3 (dk_at dksX0_whyNotLoad_0 16 rfl rfl)
theorem dX0_whyNotLoad_17 : decode cX0_whyNotLoad 17 = .ok (.iconst 4, 1) := dk_7 (dk_at dksX0_whyNotLoad_0 17 rfl rfl)
theorem dX0_whyNotLoad_18 : decode cX0_whyNotLoad 18 = .ok (.invokestatic 3, 3) := dk_184 0 3 (dk_at dksX0_whyNotLoad_0 18 rfl rfl)
theorem dX0_whyNotLoad_21 : decode cX0_whyNotLoad 21 = .ok (.ifCond .ne 5, 3) := dk_154 0 5 (dk_at dksX0_whyNotLoad_0 21 rfl rfl)
theorem dX0_whyNotLoad_24 : decode cX0_whyNotLoad 24 = .ok (.iconst (-1), 1) := dk_2 (dk_at dksX0_whyNotLoad_1 0 rfl rfl)
theorem dX0_whyNotLoad_25 : decode cX0_whyNotLoad 25 = .ok (.ireturn, 1) := dk_172 (dk_at dksX0_whyNotLoad_1 1 rfl rfl)
theorem dX0_whyNotLoad_26 : decode cX0_whyNotLoad 26 = .ok (.aload_n 0, 1) := dk_42 (dk_at dksX0_whyNotLoad_1 2 rfl rfl)
theorem dX0_whyNotLoad_27 : decode cX0_whyNotLoad 27 = .ok (.iload_n 1, 1) := dk_27 (dk_at dksX0_whyNotLoad_1 3 rfl rfl)
theorem dX0_whyNotLoad_28 : decode cX0_whyNotLoad 28 = .ok (.invokevirtual 92, 3) := dk_182 0 92 (dk_at dksX0_whyNotLoad_1 4 rfl rfl)
theorem dX0_whyNotLoad_31 : decode cX0_whyNotLoad 31 = .ok (.invokevirtual 80, 3) := dk_182 0 80 (dk_at dksX0_whyNotLoad_1 7 rfl rfl)
theorem dX0_whyNotLoad_34 : decode cX0_whyNotLoad 34 = .ok (.ifCond .eq 15, 3) := dk_153 0 15 (dk_at dksX0_whyNotLoad_1 10 rfl rfl)
theorem dX0_whyNotLoad_37 : decode cX0_whyNotLoad 37 = .ok (.aload_n 0, 1) := dk_42 (dk_at dksX0_whyNotLoad_1 13 rfl rfl)
theorem dX0_whyNotLoad_38 : decode cX0_whyNotLoad 38 = .ok (.getfield 16, 3) := dk_180 0 16 (dk_at dksX0_whyNotLoad_1 14 rfl rfl)
theorem dX0_whyNotLoad_41 : decode cX0_whyNotLoad 41 = .ok (.iload_n 2, 1) := dk_28 (dk_at dksX0_whyNotLoad_1 17 rfl rfl)
theorem dX0_whyNotLoad_42 : decode cX0_whyNotLoad 42 = .ok (.iload_n 3, 1) := dk_29 (dk_at dksX0_whyNotLoad_1 18 rfl rfl)
theorem dX0_whyNotLoad_43 : decode cX0_whyNotLoad 43 = .ok (.invokevirtual 127, 3) := dk_182 0 127 (dk_at dksX0_whyNotLoad_1 19 rfl rfl)
theorem dX0_whyNotLoad_46 : decode cX0_whyNotLoad 46 = .ok (.ifnull 8, 3) := dk_198 0 8 (dk_at dksX0_whyNotLoad_2 0 rfl rfl)
theorem dX0_whyNotLoad_49 : decode cX0_whyNotLoad 49 = .ok (.bipush (-5), 2) := dk_16 251 (dk_at dksX0_whyNotLoad_2 3 rfl rfl)
theorem dX0_whyNotLoad_51 : decode cX0_whyNotLoad 51 = .ok (.goto 4, 3) := dk_167 0 4 (dk_at dksX0_whyNotLoad_2 5 rfl rfl)
theorem dX0_whyNotLoad_54 : decode cX0_whyNotLoad 54 = .ok (.iconst 0, 1) := dk_3 (dk_at dksX0_whyNotLoad_2 8 rfl rfl)
theorem dX0_whyNotLoad_55 : decode cX0_whyNotLoad 55 = .ok (.ireturn, 1) := dk_172 (dk_at dksX0_whyNotLoad_2 9 rfl rfl)
abbrev cX0_unload : ByteArray := prog_1_method_33_code
def yX0_unload : MethodName := ⟨RX0, "unload", "(I)I"⟩
def dkwX0_unload_4 : List UInt8 := [180, 0, 16, 21, 4, 182, 0, 220, 172]
abbrev dktX0_unload_4 : List UInt8 := dkwX0_unload_4 ++ []
def dkwX0_unload_3 : List UInt8 := [54, 4, 42, 27, 182, 0, 92, 3, 181, 0, 104, 42, 27, 182, 0, 92, 16, 250, 181, 0, 217, 42]
abbrev dktX0_unload_3 : List UInt8 := dkwX0_unload_3 ++ dktX0_unload_4
def dkwX0_unload_2 : List UInt8 := [16, 251, 4, 182, 0, 141, 62, 29, 156, 0, 5, 29, 172, 42, 27, 182, 0, 92, 180, 0, 217, 8, 108]
abbrev dktX0_unload_2 : List UInt8 := dkwX0_unload_2 ++ dktX0_unload_3
def dkwX0_unload_1 : List UInt8 := [3, 61, 42, 42, 27, 182, 0, 88, 154, 0, 7, 2, 167, 0, 13, 28, 153, 0, 7, 3, 167, 0, 5]
abbrev dktX0_unload_1 : List UInt8 := dkwX0_unload_1 ++ dktX0_unload_2
def dkwX0_unload_0 : List UInt8 := [42, 27, 182, 0, 88, 153, 0, 19, 42, 27, 182, 0, 92, 180, 0, 104, 5, 160, 0, 7, 4, 167, 0, 4]
abbrev dktX0_unload_0 : List UInt8 := dkwX0_unload_0 ++ dktX0_unload_1
theorem dksX0_unload_0 : cX0_unload.data.toList.drop 0 = dktX0_unload_0 := by decide +kernel
theorem dksX0_unload_1 : cX0_unload.data.toList.drop 24 = dktX0_unload_1 := dk_seg dksX0_unload_0 24 rfl rfl
theorem dksX0_unload_2 : cX0_unload.data.toList.drop 47 = dktX0_unload_2 := dk_seg dksX0_unload_1 23 rfl rfl
theorem dksX0_unload_3 : cX0_unload.data.toList.drop 70 = dktX0_unload_3 := dk_seg dksX0_unload_2 23 rfl rfl
theorem dksX0_unload_4 : cX0_unload.data.toList.drop 92 = dktX0_unload_4 := dk_seg dksX0_unload_3 22 rfl rfl
theorem dX0_unload_0 : decode cX0_unload 0 = .ok (.aload_n 0, 1) := dk_42 (dk_at dksX0_unload_0 0 rfl rfl)
theorem dX0_unload_1 : decode cX0_unload 1 = .ok (.iload_n 1, 1) := dk_27 (dk_at dksX0_unload_0 1 rfl rfl)
theorem dX0_unload_2 : decode cX0_unload 2 = .ok (.invokevirtual 88, 3) := dk_182 0 88 (dk_at dksX0_unload_0 2 rfl rfl)
theorem dX0_unload_5 : decode cX0_unload 5 = .ok (.ifCond .eq 19, 3) := dk_153 0 19 (dk_at dksX0_unload_0 5 rfl rfl)
theorem dX0_unload_8 : decode cX0_unload 8 = .ok (.aload_n 0, 1) := dk_42 (dk_at dksX0_unload_0 8 rfl rfl)
theorem dX0_unload_9 : decode cX0_unload 9 = .ok (.iload_n 1, 1) := dk_27 (dk_at dksX0_unload_0 9 rfl rfl)
theorem dX0_unload_10 : decode cX0_unload 10 = .ok (.invokevirtual 92, 3) := dk_182 0 92 (dk_at dksX0_unload_0 10 rfl rfl)
theorem dX0_unload_13 : decode cX0_unload 13 = .ok (.getfield 104, 3) := dk_180 0 104 (dk_at dksX0_unload_0 13 rfl rfl)
theorem dX0_unload_16 : decode cX0_unload 16 = .ok (.iconst 2, 1) := dk_5 (dk_at dksX0_unload_0 16 rfl rfl)
theorem dX0_unload_17 : decode cX0_unload 17 = .ok (.if_icmp .ne 7, 3) := dk_160 0 7 (dk_at dksX0_unload_0 17 rfl rfl)
theorem dX0_unload_20 : decode cX0_unload 20 = .ok (.iconst 1, 1) := dk_4 (dk_at dksX0_unload_0 20 rfl rfl)
theorem dX0_unload_21 : decode cX0_unload 21 = .ok (.goto 4, 3) := dk_167 0 4 (dk_at dksX0_unload_0 21 rfl rfl)
theorem dX0_unload_24 : decode cX0_unload 24 = .ok (.iconst 0, 1) := dk_3 (dk_at dksX0_unload_1 0 rfl rfl)
theorem dX0_unload_25 : decode cX0_unload 25 = .ok (.istore_n 2, 1) := dk_61 (dk_at dksX0_unload_1 1 rfl rfl)
theorem dX0_unload_26 : decode cX0_unload 26 = .ok (.aload_n 0, 1) := dk_42 (dk_at dksX0_unload_1 2 rfl rfl)
theorem dX0_unload_27 : decode cX0_unload 27 = .ok (.aload_n 0, 1) := dk_42 (dk_at dksX0_unload_1 3 rfl rfl)
theorem dX0_unload_28 : decode cX0_unload 28 = .ok (.iload_n 1, 1) := dk_27 (dk_at dksX0_unload_1 4 rfl rfl)
theorem dX0_unload_29 : decode cX0_unload 29 = .ok (.invokevirtual 88, 3) := dk_182 0 88 (dk_at dksX0_unload_1 5 rfl rfl)
theorem dX0_unload_32 : decode cX0_unload 32 = .ok (.ifCond .ne 7, 3) := dk_154 0 7 (dk_at dksX0_unload_1 8 rfl rfl)
theorem dX0_unload_35 : decode cX0_unload 35 = .ok (.iconst (-1), 1) := dk_2 (dk_at dksX0_unload_1 11 rfl rfl)
theorem dX0_unload_36 : decode cX0_unload 36 = .ok (.goto 13, 3) := dk_167 0 13 (dk_at dksX0_unload_1 12 rfl rfl)
theorem dX0_unload_39 : decode cX0_unload 39 = .ok (.iload_n 2, 1) := dk_28 (dk_at dksX0_unload_1 15 rfl rfl)
theorem dX0_unload_40 : decode cX0_unload 40 = .ok (.ifCond .eq 7, 3) := dk_153 0 7 (dk_at dksX0_unload_1 16 rfl rfl)
theorem dX0_unload_43 : decode cX0_unload 43 = .ok (.iconst 0, 1) := dk_3 (dk_at dksX0_unload_1 19 rfl rfl)
theorem dX0_unload_44 : decode cX0_unload 44 = .ok (.goto 5, 3) := dk_167 0 5 (dk_at dksX0_unload_1 20 rfl rfl)
theorem dX0_unload_47 : decode cX0_unload 47 = .ok (.bipush (-5), 2) := dk_16 251 (dk_at dksX0_unload_2 0 rfl rfl)
theorem dX0_unload_49 : decode cX0_unload 49 = .ok (.iconst 1, 1) := dk_4 (dk_at dksX0_unload_2 2 rfl rfl)
theorem dX0_unload_50 : decode cX0_unload 50 = .ok (.invokevirtual 141, 3) := dk_182 0 141 (dk_at dksX0_unload_2 3 rfl rfl)
theorem dX0_unload_53 : decode cX0_unload 53 = .ok (.istore_n 3, 1) := dk_62 (dk_at dksX0_unload_2 6 rfl rfl)
theorem dX0_unload_54 : decode cX0_unload 54 = .ok (.iload_n 3, 1) := dk_29 (dk_at dksX0_unload_2 7 rfl rfl)
theorem dX0_unload_55 : decode cX0_unload 55 = .ok (.ifCond .ge 5, 3) := dk_156 0 5 (dk_at dksX0_unload_2 8 rfl rfl)
theorem dX0_unload_58 : decode cX0_unload 58 = .ok (.iload_n 3, 1) := dk_29 (dk_at dksX0_unload_2 11 rfl rfl)
theorem dX0_unload_59 : decode cX0_unload 59 = .ok (.ireturn, 1) := dk_172 (dk_at dksX0_unload_2 12 rfl rfl)
theorem dX0_unload_60 : decode cX0_unload 60 = .ok (.aload_n 0, 1) := dk_42 (dk_at dksX0_unload_2 13 rfl rfl)
theorem dX0_unload_61 : decode cX0_unload 61 = .ok (.iload_n 1, 1) := dk_27 (dk_at dksX0_unload_2 14 rfl rfl)
theorem dX0_unload_62 : decode cX0_unload 62 = .ok (.invokevirtual 92, 3) := dk_182 0 92 (dk_at dksX0_unload_2 15 rfl rfl)
theorem dX0_unload_65 : decode cX0_unload 65 = .ok (.getfield 217, 3) := dk_180 0 217 (dk_at dksX0_unload_2 18 rfl rfl)
theorem dX0_unload_68 : decode cX0_unload 68 = .ok (.iconst 5, 1) := dk_8 (dk_at dksX0_unload_2 21 rfl rfl)
theorem dX0_unload_69 : decode cX0_unload 69 = .ok (.idiv, 1) := dk_108 (dk_at dksX0_unload_2 22 rfl rfl)
theorem dX0_unload_70 : decode cX0_unload 70 = .ok (.istore 4, 2) := dk_54 4 (dk_at dksX0_unload_3 0 rfl rfl)
theorem dX0_unload_72 : decode cX0_unload 72 = .ok (.aload_n 0, 1) := dk_42 (dk_at dksX0_unload_3 2 rfl rfl)
theorem dX0_unload_73 : decode cX0_unload 73 = .ok (.iload_n 1, 1) := dk_27 (dk_at dksX0_unload_3 3 rfl rfl)
theorem dX0_unload_74 : decode cX0_unload 74 = .ok (.invokevirtual 92, 3) := dk_182 0 92 (dk_at dksX0_unload_3 4 rfl rfl)
theorem dX0_unload_77 : decode cX0_unload 77 = .ok (.iconst 0, 1) := dk_3 (dk_at dksX0_unload_3 7 rfl rfl)
theorem dX0_unload_78 : decode cX0_unload 78 = .ok (.putfield 104, 3) := dk_181 0 104 (dk_at dksX0_unload_3 8 rfl rfl)
theorem dX0_unload_81 : decode cX0_unload 81 = .ok (.aload_n 0, 1) := dk_42 (dk_at dksX0_unload_3 11 rfl rfl)
theorem dX0_unload_82 : decode cX0_unload 82 = .ok (.iload_n 1, 1) := dk_27 (dk_at dksX0_unload_3 12 rfl rfl)
theorem dX0_unload_83 : decode cX0_unload 83 = .ok (.invokevirtual 92, 3) := dk_182 0 92 (dk_at dksX0_unload_3 13 rfl rfl)
theorem dX0_unload_86 : decode cX0_unload 86 = .ok (.bipush (-6), 2) := dk_16 250 (dk_at dksX0_unload_3 16 rfl rfl)
theorem dX0_unload_88 : decode cX0_unload 88 = .ok (.putfield 217, 3) := dk_181 0 217 (dk_at dksX0_unload_3 18 rfl rfl)
theorem dX0_unload_91 : decode cX0_unload 91 = .ok (.aload_n 0, 1) := dk_42 (dk_at dksX0_unload_3 21 rfl rfl)
theorem dX0_unload_92 : decode cX0_unload 92 = .ok (.getfield 16, 3) := dk_180 0 16 (dk_at dksX0_unload_4 0 rfl rfl)
theorem dX0_unload_95 : decode cX0_unload 95 = .ok (.iload 4, 2) := dk_21 4 (dk_at dksX0_unload_4 3 rfl rfl)
theorem dX0_unload_97 : decode cX0_unload 97 = .ok (.invokevirtual 220, 3) := dk_182 0 220 (dk_at dksX0_unload_4 5 rfl rfl)
theorem dX0_unload_100 : decode cX0_unload 100 = .ok (.ireturn, 1) := dk_172 (dk_at dksX0_unload_4 8 rfl rfl)
abbrev cX0_leave : ByteArray := prog_1_method_35_code
def yX0_leave : MethodName := ⟨RX0, "leave", "(I)I"⟩
def dkwX0_leave_0 : List UInt8 := [42, 27, 4, 182, 0, 232, 172]
abbrev dktX0_leave_0 : List UInt8 := dkwX0_leave_0 ++ []
theorem dksX0_leave_0 : cX0_leave.data.toList.drop 0 = dktX0_leave_0 := by decide +kernel
theorem dX0_leave_0 : decode cX0_leave 0 = .ok (.aload_n 0, 1) := dk_42 (dk_at dksX0_leave_0 0 rfl rfl)
theorem dX0_leave_1 : decode cX0_leave 1 = .ok (.iload_n 1, 1) := dk_27 (dk_at dksX0_leave_0 1 rfl rfl)
theorem dX0_leave_2 : decode cX0_leave 2 = .ok (.iconst 1, 1) := dk_4 (dk_at dksX0_leave_0 2 rfl rfl)
theorem dX0_leave_3 : decode cX0_leave 3 = .ok (.invokevirtual 232, 3) := dk_182 0 232 (dk_at dksX0_leave_0 3 rfl rfl)
theorem dX0_leave_6 : decode cX0_leave 6 = .ok (.ireturn, 1) := dk_172 (dk_at dksX0_leave_0 6 rfl rfl)
abbrev cX0_leaves : ByteArray := prog_1_method_34_code
def yX0_leaves : MethodName := ⟨RX0, "leaves", "(IZ)I"⟩
def dkwX0_leaves_2 : List UInt8 := [182, 0, 229, 172]
abbrev dktX0_leaves_2 : List UInt8 := dkwX0_leaves_2 ++ []
def dkwX0_leaves_1 : List UInt8 := [167, 0, 5, 16, 251, 28, 182, 0, 141, 62, 29, 156, 0, 7, 29, 167, 0, 11, 42, 180, 0, 16, 27]
abbrev dktX0_leaves_1 : List UInt8 := dkwX0_leaves_1 ++ dktX0_leaves_2
def dkwX0_leaves_0 : List UInt8 := [42, 27, 184, 0, 124, 154, 0, 7, 2, 167, 0, 20, 42, 180, 0, 16, 27, 182, 0, 226, 154, 0, 7, 3]
abbrev dktX0_leaves_0 : List UInt8 := dkwX0_leaves_0 ++ dktX0_leaves_1
theorem dksX0_leaves_0 : cX0_leaves.data.toList.drop 0 = dktX0_leaves_0 := by decide +kernel
theorem dksX0_leaves_1 : cX0_leaves.data.toList.drop 24 = dktX0_leaves_1 := dk_seg dksX0_leaves_0 24 rfl rfl
theorem dksX0_leaves_2 : cX0_leaves.data.toList.drop 47 = dktX0_leaves_2 := dk_seg dksX0_leaves_1 23 rfl rfl
theorem dX0_leaves_0 : decode cX0_leaves 0 = .ok (.aload_n 0, 1) := dk_42 (dk_at dksX0_leaves_0 0 rfl rfl)
theorem dX0_leaves_1 : decode cX0_leaves 1 = .ok (.iload_n 1, 1) := dk_27 (dk_at dksX0_leaves_0 1 rfl rfl)
theorem dX0_leaves_2 : decode cX0_leaves 2 = .ok (.invokestatic 124, 3) := dk_184 0 124 (dk_at dksX0_leaves_0 2 rfl rfl)
theorem dX0_leaves_5 : decode cX0_leaves 5 = .ok (.ifCond .ne 7, 3) := dk_154 0 7 (dk_at dksX0_leaves_0 5 rfl rfl)
theorem dX0_leaves_8 : decode cX0_leaves 8 = .ok (.iconst (-1), 1) := dk_2 (dk_at dksX0_leaves_0 8 rfl rfl)
theorem dX0_leaves_9 : decode cX0_leaves 9 = .ok (.goto 20, 3) := dk_167 0 20 (dk_at dksX0_leaves_0 9 rfl rfl)
theorem dX0_leaves_12 : decode cX0_leaves 12 = .ok (.aload_n 0, 1) := dk_42 (dk_at dksX0_leaves_0 12 rfl rfl)
theorem dX0_leaves_13 : decode cX0_leaves 13 = .ok (.getfield 16, 3) := dk_180 0 16 (dk_at dksX0_leaves_0 13 rfl rfl)
theorem dX0_leaves_16 : decode cX0_leaves 16 = .ok (.iload_n 1, 1) := dk_27 (dk_at dksX0_leaves_0 16 rfl rfl)
theorem dX0_leaves_17 : decode cX0_leaves 17 = .ok (.invokevirtual 226, 3) := dk_182 0 226 (dk_at dksX0_leaves_0 17 rfl rfl)
theorem dX0_leaves_20 : decode cX0_leaves 20 = .ok (.ifCond .ne 7, 3) := dk_154 0 7 (dk_at dksX0_leaves_0 20 rfl rfl)
theorem dX0_leaves_23 : decode cX0_leaves 23 = .ok (.iconst 0, 1) := dk_3 (dk_at dksX0_leaves_0 23 rfl rfl)
theorem dX0_leaves_24 : decode cX0_leaves 24 = .ok (.goto 5, 3) := dk_167 0 5 (dk_at dksX0_leaves_1 0 rfl rfl)
theorem dX0_leaves_27 : decode cX0_leaves 27 = .ok (.bipush (-5), 2) := dk_16 251 (dk_at dksX0_leaves_1 3 rfl rfl)
theorem dX0_leaves_29 : decode cX0_leaves 29 = .ok (.iload_n 2, 1) := dk_28 (dk_at dksX0_leaves_1 5 rfl rfl)
theorem dX0_leaves_30 : decode cX0_leaves 30 = .ok (.invokevirtual 141, 3) := dk_182 0 141 (dk_at dksX0_leaves_1 6 rfl rfl)
theorem dX0_leaves_33 : decode cX0_leaves 33 = .ok (.istore_n 3, 1) := dk_62 (dk_at dksX0_leaves_1 9 rfl rfl)
theorem dX0_leaves_34 : decode cX0_leaves 34 = .ok (.iload_n 3, 1) := dk_29 (dk_at dksX0_leaves_1 10 rfl rfl)
theorem dX0_leaves_35 : decode cX0_leaves 35 = .ok (.ifCond .ge 7, 3) := dk_156 0 7 (dk_at dksX0_leaves_1 11 rfl rfl)
theorem dX0_leaves_38 : decode cX0_leaves 38 = .ok (.iload_n 3, 1) := dk_29 (dk_at dksX0_leaves_1 14 rfl rfl)
theorem dX0_leaves_39 : decode cX0_leaves 39 = .ok (.goto 11, 3) := dk_167 0 11 (dk_at dksX0_leaves_1 15 rfl rfl)
theorem dX0_leaves_42 : decode cX0_leaves 42 = .ok (.aload_n 0, 1) := dk_42 (dk_at dksX0_leaves_1 18 rfl rfl)
theorem dX0_leaves_43 : decode cX0_leaves 43 = .ok (.getfield 16, 3) := dk_180 0 16 (dk_at dksX0_leaves_1 19 rfl rfl)
theorem dX0_leaves_46 : decode cX0_leaves 46 = .ok (.iload_n 1, 1) := dk_27 (dk_at dksX0_leaves_1 22 rfl rfl)
theorem dX0_leaves_47 : decode cX0_leaves 47 = .ok (.invokevirtual 229, 3) := dk_182 0 229 (dk_at dksX0_leaves_2 0 rfl rfl)
theorem dX0_leaves_50 : decode cX0_leaves 50 = .ok (.ireturn, 1) := dk_172 (dk_at dksX0_leaves_2 3 rfl rfl)
abbrev cX0_night : ByteArray := prog_1_method_37_code
def yX0_night : MethodName := ⟨RX0, "night", "(I)I"⟩
def dkwX0_night_0 : List UInt8 := [42, 27, 4, 182, 0, 241, 172]
abbrev dktX0_night_0 : List UInt8 := dkwX0_night_0 ++ []
theorem dksX0_night_0 : cX0_night.data.toList.drop 0 = dktX0_night_0 := by decide +kernel
theorem dX0_night_0 : decode cX0_night 0 = .ok (.aload_n 0, 1) := dk_42 (dk_at dksX0_night_0 0 rfl rfl)
theorem dX0_night_1 : decode cX0_night 1 = .ok (.iload_n 1, 1) := dk_27 (dk_at dksX0_night_0 1 rfl rfl)
theorem dX0_night_2 : decode cX0_night 2 = .ok (.iconst 1, 1) := dk_4 (dk_at dksX0_night_0 2 rfl rfl)
theorem dX0_night_3 : decode cX0_night 3 = .ok (.invokevirtual 241, 3) := dk_182 0 241 (dk_at dksX0_night_0 3 rfl rfl)
theorem dX0_night_6 : decode cX0_night 6 = .ok (.ireturn, 1) := dk_172 (dk_at dksX0_night_0 6 rfl rfl)
abbrev cX0_passes : ByteArray := prog_1_method_36_code
def yX0_passes : MethodName := ⟨RX0, "passes", "(IZ)I"⟩
def dkwX0_passes_1 : List UInt8 := [182, 0, 238, 172]
abbrev dktX0_passes_1 : List UInt8 := dkwX0_passes_1 ++ []
def dkwX0_passes_0 : List UInt8 := [42, 42, 27, 182, 0, 235, 28, 182, 0, 141, 62, 29, 156, 0, 7, 29, 167, 0, 11, 42, 180, 0, 16, 27]
abbrev dktX0_passes_0 : List UInt8 := dkwX0_passes_0 ++ dktX0_passes_1
theorem dksX0_passes_0 : cX0_passes.data.toList.drop 0 = dktX0_passes_0 := by decide +kernel
theorem dksX0_passes_1 : cX0_passes.data.toList.drop 24 = dktX0_passes_1 := dk_seg dksX0_passes_0 24 rfl rfl
theorem dX0_passes_0 : decode cX0_passes 0 = .ok (.aload_n 0, 1) := dk_42 (dk_at dksX0_passes_0 0 rfl rfl)
theorem dX0_passes_1 : decode cX0_passes 1 = .ok (.aload_n 0, 1) := dk_42 (dk_at dksX0_passes_0 1 rfl rfl)
theorem dX0_passes_2 : decode cX0_passes 2 = .ok (.iload_n 1, 1) := dk_27 (dk_at dksX0_passes_0 2 rfl rfl)
theorem dX0_passes_3 : decode cX0_passes 3 = .ok (.invokevirtual 235, 3) := dk_182 0 235 (dk_at dksX0_passes_0 3 rfl rfl)
theorem dX0_passes_6 : decode cX0_passes 6 = .ok (.iload_n 2, 1) := dk_28 (dk_at dksX0_passes_0 6 rfl rfl)
theorem dX0_passes_7 : decode cX0_passes 7 = .ok (.invokevirtual 141, 3) := dk_182 0 141 (dk_at dksX0_passes_0 7 rfl rfl)
theorem dX0_passes_10 : decode cX0_passes 10 = .ok (.istore_n 3, 1) := dk_62 (dk_at dksX0_passes_0 10 rfl rfl)
theorem dX0_passes_11 : decode cX0_passes 11 = .ok (.iload_n 3, 1) := dk_29 (dk_at dksX0_passes_0 11 rfl rfl)
theorem dX0_passes_12 : decode cX0_passes 12 = .ok (.ifCond .ge 7, 3) := dk_156 0 7 (dk_at dksX0_passes_0 12 rfl rfl)
theorem dX0_passes_15 : decode cX0_passes 15 = .ok (.iload_n 3, 1) := dk_29 (dk_at dksX0_passes_0 15 rfl rfl)
theorem dX0_passes_16 : decode cX0_passes 16 = .ok (.goto 11, 3) := dk_167 0 11 (dk_at dksX0_passes_0 16 rfl rfl)
theorem dX0_passes_19 : decode cX0_passes 19 = .ok (.aload_n 0, 1) := dk_42 (dk_at dksX0_passes_0 19 rfl rfl)
theorem dX0_passes_20 : decode cX0_passes 20 = .ok (.getfield 16, 3) := dk_180 0 16 (dk_at dksX0_passes_0 20 rfl rfl)
theorem dX0_passes_23 : decode cX0_passes 23 = .ok (.iload_n 1, 1) := dk_27 (dk_at dksX0_passes_0 23 rfl rfl)
theorem dX0_passes_24 : decode cX0_passes 24 = .ok (.invokevirtual 238, 3) := dk_182 0 238 (dk_at dksX0_passes_1 0 rfl rfl)
theorem dX0_passes_27 : decode cX0_passes 27 = .ok (.ireturn, 1) := dk_172 (dk_at dksX0_passes_1 3 rfl rfl)
abbrev cX0_whyNotNight : ByteArray := prog_1_method_18_code
def yX0_whyNotNight : MethodName := ⟨RX0, "whyNotNight", "(I)I"⟩
def dkwX0_whyNotNight_1 : List UInt8 := [17, 3, 231, 160, 0, 8, 16, 251, 167, 0, 4, 3, 172]
abbrev dktX0_whyNotNight_1 : List UInt8 := dkwX0_whyNotNight_1 ++ []
def dkwX0_whyNotNight_0 : List UInt8 := [27, 16, 216, 16, 40, 184, 0, 3, 154, 0, 8, 16, 254, 167, 0, 22, 42, 180, 0, 16, 180, 0, 131]
abbrev dktX0_whyNotNight_0 : List UInt8 := dkwX0_whyNotNight_0 ++ dktX0_whyNotNight_1
theorem dksX0_whyNotNight_0 : cX0_whyNotNight.data.toList.drop 0 = dktX0_whyNotNight_0 := by decide +kernel
theorem dksX0_whyNotNight_1 : cX0_whyNotNight.data.toList.drop 23 = dktX0_whyNotNight_1 := dk_seg dksX0_whyNotNight_0 23 rfl rfl
theorem dX0_whyNotNight_0 : decode cX0_whyNotNight 0 = .ok (.iload_n 1, 1) := dk_27 (dk_at dksX0_whyNotNight_0 0 rfl rfl)
theorem dX0_whyNotNight_1 : decode cX0_whyNotNight 1 = .ok (.bipush (-40), 2) := dk_16 216 (dk_at dksX0_whyNotNight_0 1 rfl rfl)
theorem dX0_whyNotNight_3 : decode cX0_whyNotNight 3 = .ok (.bipush 40, 2) := dk_16 40 (dk_at dksX0_whyNotNight_0 3 rfl rfl)
theorem dX0_whyNotNight_5 : decode cX0_whyNotNight 5 = .ok (.invokestatic 3, 3) := dk_184 0 3 (dk_at dksX0_whyNotNight_0 5 rfl rfl)
theorem dX0_whyNotNight_8 : decode cX0_whyNotNight 8 = .ok (.ifCond .ne 8, 3) := dk_154 0 8 (dk_at dksX0_whyNotNight_0 8 rfl rfl)
theorem dX0_whyNotNight_11 : decode cX0_whyNotNight 11 = .ok (.bipush (-2), 2) := dk_16 254 (dk_at dksX0_whyNotNight_0 11 rfl rfl)
theorem dX0_whyNotNight_13 : decode cX0_whyNotNight 13 = .ok (.goto 22, 3) := dk_167 0 22 (dk_at dksX0_whyNotNight_0 13 rfl rfl)
theorem dX0_whyNotNight_16 : decode cX0_whyNotNight 16 = .ok (.aload_n 0, 1) := dk_42 (dk_at dksX0_whyNotNight_0 16 rfl rfl)
theorem dX0_whyNotNight_17 : decode cX0_whyNotNight 17 = .ok (.getfield 16, 3) := dk_180 0 16 (dk_at dksX0_whyNotNight_0 17 rfl rfl)
theorem dX0_whyNotNight_20 : decode cX0_whyNotNight 20 = .ok (.getfield 131, 3) := dk_180 0 131 (dk_at dksX0_whyNotNight_0 20 rfl rfl)
theorem dX0_whyNotNight_23 : decode cX0_whyNotNight 23 = .ok (.sipush 999, 3) := dk_17 3 231 (dk_at dksX0_whyNotNight_1 0 rfl rfl)
theorem dX0_whyNotNight_26 : decode cX0_whyNotNight 26 = .ok (.if_icmp .ne 8, 3) := dk_160 0 8 (dk_at dksX0_whyNotNight_1 3 rfl rfl)
theorem dX0_whyNotNight_29 : decode cX0_whyNotNight 29 = .ok (.bipush (-5), 2) := dk_16 251 (dk_at dksX0_whyNotNight_1 6 rfl rfl)
theorem dX0_whyNotNight_31 : decode cX0_whyNotNight 31 = .ok (.goto 4, 3) := dk_167 0 4 (dk_at dksX0_whyNotNight_1 8 rfl rfl)
theorem dX0_whyNotNight_34 : decode cX0_whyNotNight 34 = .ok (.iconst 0, 1) := dk_3 (dk_at dksX0_whyNotNight_1 11 rfl rfl)
theorem dX0_whyNotNight_35 : decode cX0_whyNotNight 35 = .ok (.ireturn, 1) := dk_172 (dk_at dksX0_whyNotNight_1 12 rfl rfl)
abbrev cX0_of : ByteArray := prog_1_method_38_code
def yX0_of : MethodName := ⟨RX0, "of", "(II)I"⟩
def dkwX0_of_4 : List UInt8 := [180, 0, 217, 172, 45, 180, 1, 7, 172, 16, 254, 172]
abbrev dktX0_of_4 : List UInt8 := dkwX0_of_4 ++ []
def dkwX0_of_3 : List UInt8 := [45, 180, 1, 1, 172, 45, 180, 1, 4, 153, 0, 7, 4, 167, 0, 4, 3, 172, 45, 180, 0, 84, 172, 45]
abbrev dktX0_of_3 : List UInt8 := dkwX0_of_3 ++ dktX0_of_4
def dkwX0_of_2 : List UInt8 := [45, 180, 0, 244, 28, 182, 0, 248, 172, 45, 180, 0, 251, 172, 45, 182, 0, 254, 172, 45, 180, 0, 104, 172]
abbrev dktX0_of_2 : List UInt8 := dkwX0_of_2 ++ dktX0_of_3
def dkwX0_of_1 : List UInt8 := [170, 0, 0, 0, 0, 0, 116, 0, 0, 0, 0, 0, 0, 0, 10, 0, 0, 0, 59, 0, 0, 0, 59, 0, 0, 0, 59, 0, 0, 0, 68, 0, 0, 0, 73, 0, 0, 0, 78, 0, 0, 0, 83, 0, 0, 0, 88, 0, 0, 0, 101, 0, 0, 0, 106, 0, 0, 0, 111]
abbrev dktX0_of_1 : List UInt8 := dkwX0_of_1 ++ dktX0_of_2
def dkwX0_of_0 : List UInt8 := [42, 27, 182, 0, 88, 154, 0, 5, 2, 172, 42, 27, 182, 0, 92, 78, 28]
abbrev dktX0_of_0 : List UInt8 := dkwX0_of_0 ++ dktX0_of_1
theorem dksX0_of_0 : cX0_of.data.toList.drop 0 = dktX0_of_0 := by decide +kernel
theorem dksX0_of_1 : cX0_of.data.toList.drop 17 = dktX0_of_1 := dk_seg dksX0_of_0 17 rfl rfl
theorem dksX0_of_2 : cX0_of.data.toList.drop 76 = dktX0_of_2 := dk_seg dksX0_of_1 59 rfl rfl
theorem dksX0_of_3 : cX0_of.data.toList.drop 100 = dktX0_of_3 := dk_seg dksX0_of_2 24 rfl rfl
theorem dksX0_of_4 : cX0_of.data.toList.drop 124 = dktX0_of_4 := dk_seg dksX0_of_3 24 rfl rfl
theorem dX0_of_0 : decode cX0_of 0 = .ok (.aload_n 0, 1) := dk_42 (dk_at dksX0_of_0 0 rfl rfl)
theorem dX0_of_1 : decode cX0_of 1 = .ok (.iload_n 1, 1) := dk_27 (dk_at dksX0_of_0 1 rfl rfl)
theorem dX0_of_2 : decode cX0_of 2 = .ok (.invokevirtual 88, 3) := dk_182 0 88 (dk_at dksX0_of_0 2 rfl rfl)
theorem dX0_of_5 : decode cX0_of 5 = .ok (.ifCond .ne 5, 3) := dk_154 0 5 (dk_at dksX0_of_0 5 rfl rfl)
theorem dX0_of_8 : decode cX0_of 8 = .ok (.iconst (-1), 1) := dk_2 (dk_at dksX0_of_0 8 rfl rfl)
theorem dX0_of_9 : decode cX0_of 9 = .ok (.ireturn, 1) := dk_172 (dk_at dksX0_of_0 9 rfl rfl)
theorem dX0_of_10 : decode cX0_of 10 = .ok (.aload_n 0, 1) := dk_42 (dk_at dksX0_of_0 10 rfl rfl)
theorem dX0_of_11 : decode cX0_of 11 = .ok (.iload_n 1, 1) := dk_27 (dk_at dksX0_of_0 11 rfl rfl)
theorem dX0_of_12 : decode cX0_of 12 = .ok (.invokevirtual 92, 3) := dk_182 0 92 (dk_at dksX0_of_0 12 rfl rfl)
theorem dX0_of_15 : decode cX0_of 15 = .ok (.astore_n 3, 1) := dk_78 (dk_at dksX0_of_0 15 rfl rfl)
theorem dX0_of_16 : decode cX0_of 16 = .ok (.iload_n 2, 1) := dk_28 (dk_at dksX0_of_0 16 rfl rfl)
theorem dX0_of_17 : decode cX0_of 17 = .ok (.tableswitch 116 0 10 #[59, 59, 59, 68, 73, 78, 83, 88, 101, 106, 111], 59) := by decide +kernel
theorem dX0_of_76 : decode cX0_of 76 = .ok (.aload_n 3, 1) := dk_45 (dk_at dksX0_of_2 0 rfl rfl)
theorem dX0_of_77 : decode cX0_of 77 = .ok (.getfield 244, 3) := dk_180 0 244 (dk_at dksX0_of_2 1 rfl rfl)
theorem dX0_of_80 : decode cX0_of 80 = .ok (.iload_n 2, 1) := dk_28 (dk_at dksX0_of_2 4 rfl rfl)
theorem dX0_of_81 : decode cX0_of 81 = .ok (.invokevirtual 248, 3) := dk_182 0 248 (dk_at dksX0_of_2 5 rfl rfl)
theorem dX0_of_84 : decode cX0_of 84 = .ok (.ireturn, 1) := dk_172 (dk_at dksX0_of_2 8 rfl rfl)
theorem dX0_of_85 : decode cX0_of 85 = .ok (.aload_n 3, 1) := dk_45 (dk_at dksX0_of_2 9 rfl rfl)
theorem dX0_of_86 : decode cX0_of 86 = .ok (.getfield 251, 3) := dk_180 0 251 (dk_at dksX0_of_2 10 rfl rfl)
theorem dX0_of_89 : decode cX0_of 89 = .ok (.ireturn, 1) := dk_172 (dk_at dksX0_of_2 13 rfl rfl)
theorem dX0_of_90 : decode cX0_of 90 = .ok (.aload_n 3, 1) := dk_45 (dk_at dksX0_of_2 14 rfl rfl)
theorem dX0_of_91 : decode cX0_of 91 = .ok (.invokevirtual 254, 3) := dk_182 0 254 (dk_at dksX0_of_2 15 rfl rfl)
theorem dX0_of_94 : decode cX0_of 94 = .ok (.ireturn, 1) := dk_172 (dk_at dksX0_of_2 18 rfl rfl)
theorem dX0_of_95 : decode cX0_of 95 = .ok (.aload_n 3, 1) := dk_45 (dk_at dksX0_of_2 19 rfl rfl)
theorem dX0_of_96 : decode cX0_of 96 = .ok (.getfield 104, 3) := dk_180 0 104 (dk_at dksX0_of_2 20 rfl rfl)
theorem dX0_of_99 : decode cX0_of 99 = .ok (.ireturn, 1) := dk_172 (dk_at dksX0_of_2 23 rfl rfl)
theorem dX0_of_100 : decode cX0_of 100 = .ok (.aload_n 3, 1) := dk_45 (dk_at dksX0_of_3 0 rfl rfl)
theorem dX0_of_101 : decode cX0_of 101 = .ok (.getfield 257, 3) := dk_180 1 1 (dk_at dksX0_of_3 1 rfl rfl)
theorem dX0_of_104 : decode cX0_of 104 = .ok (.ireturn, 1) := dk_172 (dk_at dksX0_of_3 4 rfl rfl)
theorem dX0_of_105 : decode cX0_of 105 = .ok (.aload_n 3, 1) := dk_45 (dk_at dksX0_of_3 5 rfl rfl)
theorem dX0_of_106 : decode cX0_of 106 = .ok (.getfield 260, 3) := dk_180 1 4 (dk_at dksX0_of_3 6 rfl rfl)
theorem dX0_of_109 : decode cX0_of 109 = .ok (.ifCond .eq 7, 3) := dk_153 0 7 (dk_at dksX0_of_3 9 rfl rfl)
theorem dX0_of_112 : decode cX0_of 112 = .ok (.iconst 1, 1) := dk_4 (dk_at dksX0_of_3 12 rfl rfl)
theorem dX0_of_113 : decode cX0_of 113 = .ok (.goto 4, 3) := dk_167 0 4 (dk_at dksX0_of_3 13 rfl rfl)
theorem dX0_of_116 : decode cX0_of 116 = .ok (.iconst 0, 1) := dk_3 (dk_at dksX0_of_3 16 rfl rfl)
theorem dX0_of_117 : decode cX0_of 117 = .ok (.ireturn, 1) := dk_172 (dk_at dksX0_of_3 17 rfl rfl)
theorem dX0_of_118 : decode cX0_of 118 = .ok (.aload_n 3, 1) := dk_45 (dk_at dksX0_of_3 18 rfl rfl)
theorem dX0_of_119 : decode cX0_of 119 = .ok (.getfield 84, 3) := dk_180 0 84 (dk_at dksX0_of_3 19 rfl rfl)
theorem dX0_of_122 : decode cX0_of 122 = .ok (.ireturn, 1) := dk_172 (dk_at dksX0_of_3 22 rfl rfl)
theorem dX0_of_123 : decode cX0_of 123 = .ok (.aload_n 3, 1) := dk_45 (dk_at dksX0_of_3 23 rfl rfl)
theorem dX0_of_124 : decode cX0_of 124 = .ok (.getfield 217, 3) := dk_180 0 217 (dk_at dksX0_of_4 0 rfl rfl)
theorem dX0_of_127 : decode cX0_of 127 = .ok (.ireturn, 1) := dk_172 (dk_at dksX0_of_4 3 rfl rfl)
theorem dX0_of_128 : decode cX0_of 128 = .ok (.aload_n 3, 1) := dk_45 (dk_at dksX0_of_4 4 rfl rfl)
theorem dX0_of_129 : decode cX0_of 129 = .ok (.getfield 263, 3) := dk_180 1 7 (dk_at dksX0_of_4 5 rfl rfl)
theorem dX0_of_132 : decode cX0_of 132 = .ok (.ireturn, 1) := dk_172 (dk_at dksX0_of_4 8 rfl rfl)
theorem dX0_of_133 : decode cX0_of 133 = .ok (.bipush (-2), 2) := dk_16 254 (dk_at dksX0_of_4 9 rfl rfl)
theorem dX0_of_135 : decode cX0_of 135 = .ok (.ireturn, 1) := dk_172 (dk_at dksX0_of_4 11 rfl rfl)
abbrev cX0_ofOrder : ByteArray := prog_1_method_39_code
def yX0_ofOrder : MethodName := ⟨RX0, "ofOrder", "(II)I"⟩
def dkwX0_ofOrder_3 : List UInt8 := [42, 180, 0, 16, 45, 182, 1, 14, 172, 16, 254, 172]
abbrev dktX0_ofOrder_3 : List UInt8 := dkwX0_ofOrder_3 ++ []
def dkwX0_ofOrder_2 : List UInt8 := [45, 180, 1, 10, 28, 182, 0, 248, 172, 45, 180, 0, 117, 172, 45, 180, 0, 195, 172, 45, 180, 1, 11, 172]
abbrev dktX0_ofOrder_2 : List UInt8 := dkwX0_ofOrder_2 ++ dktX0_ofOrder_3
def dkwX0_ofOrder_1 : List UInt8 := [170, 0, 0, 0, 0, 0, 76, 0, 0, 0, 0, 0, 0, 0, 6, 0, 0, 0, 43, 0, 0, 0, 43, 0, 0, 0, 43, 0, 0, 0, 52, 0, 0, 0, 57, 0, 0, 0, 62, 0, 0, 0, 67]
abbrev dktX0_ofOrder_1 : List UInt8 := dkwX0_ofOrder_1 ++ dktX0_ofOrder_2
def dkwX0_ofOrder_0 : List UInt8 := [42, 27, 182, 0, 110, 154, 0, 5, 2, 172, 42, 27, 182, 0, 113, 78, 28]
abbrev dktX0_ofOrder_0 : List UInt8 := dkwX0_ofOrder_0 ++ dktX0_ofOrder_1
theorem dksX0_ofOrder_0 : cX0_ofOrder.data.toList.drop 0 = dktX0_ofOrder_0 := by decide +kernel
theorem dksX0_ofOrder_1 : cX0_ofOrder.data.toList.drop 17 = dktX0_ofOrder_1 := dk_seg dksX0_ofOrder_0 17 rfl rfl
theorem dksX0_ofOrder_2 : cX0_ofOrder.data.toList.drop 60 = dktX0_ofOrder_2 := dk_seg dksX0_ofOrder_1 43 rfl rfl
theorem dksX0_ofOrder_3 : cX0_ofOrder.data.toList.drop 84 = dktX0_ofOrder_3 := dk_seg dksX0_ofOrder_2 24 rfl rfl
theorem dX0_ofOrder_0 : decode cX0_ofOrder 0 = .ok (.aload_n 0, 1) := dk_42 (dk_at dksX0_ofOrder_0 0 rfl rfl)
theorem dX0_ofOrder_1 : decode cX0_ofOrder 1 = .ok (.iload_n 1, 1) := dk_27 (dk_at dksX0_ofOrder_0 1 rfl rfl)
theorem dX0_ofOrder_2 : decode cX0_ofOrder 2 = .ok (.invokevirtual 110, 3) := dk_182 0 110 (dk_at dksX0_ofOrder_0 2 rfl rfl)
theorem dX0_ofOrder_5 : decode cX0_ofOrder 5 = .ok (.ifCond .ne 5, 3) := dk_154 0 5 (dk_at dksX0_ofOrder_0 5 rfl rfl)
theorem dX0_ofOrder_8 : decode cX0_ofOrder 8 = .ok (.iconst (-1), 1) := dk_2 (dk_at dksX0_ofOrder_0 8 rfl rfl)
theorem dX0_ofOrder_9 : decode cX0_ofOrder 9 = .ok (.ireturn, 1) := dk_172 (dk_at dksX0_ofOrder_0 9 rfl rfl)
theorem dX0_ofOrder_10 : decode cX0_ofOrder 10 = .ok (.aload_n 0, 1) := dk_42 (dk_at dksX0_ofOrder_0 10 rfl rfl)
theorem dX0_ofOrder_11 : decode cX0_ofOrder 11 = .ok (.iload_n 1, 1) := dk_27 (dk_at dksX0_ofOrder_0 11 rfl rfl)
theorem dX0_ofOrder_12 : decode cX0_ofOrder 12 = .ok (.invokevirtual 113, 3) := dk_182 0 113 (dk_at dksX0_ofOrder_0 12 rfl rfl)
theorem dX0_ofOrder_15 : decode cX0_ofOrder 15 = .ok (.astore_n 3, 1) := dk_78 (dk_at dksX0_ofOrder_0 15 rfl rfl)
theorem dX0_ofOrder_16 : decode cX0_ofOrder 16 = .ok (.iload_n 2, 1) := dk_28 (dk_at dksX0_ofOrder_0 16 rfl rfl)
theorem dX0_ofOrder_17 : decode cX0_ofOrder 17 = .ok (.tableswitch 76 0 6 #[43, 43, 43, 52, 57, 62, 67], 43) := by decide +kernel
theorem dX0_ofOrder_60 : decode cX0_ofOrder 60 = .ok (.aload_n 3, 1) := dk_45 (dk_at dksX0_ofOrder_2 0 rfl rfl)
theorem dX0_ofOrder_61 : decode cX0_ofOrder 61 = .ok (.getfield 266, 3) := dk_180 1 10 (dk_at dksX0_ofOrder_2 1 rfl rfl)
theorem dX0_ofOrder_64 : decode cX0_ofOrder 64 = .ok (.iload_n 2, 1) := dk_28 (dk_at dksX0_ofOrder_2 4 rfl rfl)
theorem dX0_ofOrder_65 : decode cX0_ofOrder 65 = .ok (.invokevirtual 248, 3) := dk_182 0 248 (dk_at dksX0_ofOrder_2 5 rfl rfl)
theorem dX0_ofOrder_68 : decode cX0_ofOrder 68 = .ok (.ireturn, 1) := dk_172 (dk_at dksX0_ofOrder_2 8 rfl rfl)
theorem dX0_ofOrder_69 : decode cX0_ofOrder 69 = .ok (.aload_n 3, 1) := dk_45 (dk_at dksX0_ofOrder_2 9 rfl rfl)
theorem dX0_ofOrder_70 : decode cX0_ofOrder 70 = .ok (.getfield 117, 3) := dk_180 0 117 (dk_at dksX0_ofOrder_2 10 rfl rfl)
theorem dX0_ofOrder_73 : decode cX0_ofOrder 73 = .ok (.ireturn, 1) := dk_172 (dk_at dksX0_ofOrder_2 13 rfl rfl)
theorem dX0_ofOrder_74 : decode cX0_ofOrder 74 = .ok (.aload_n 3, 1) := dk_45 (dk_at dksX0_ofOrder_2 14 rfl rfl)
theorem dX0_ofOrder_75 : decode cX0_ofOrder 75 = .ok (.getfield 195, 3) := dk_180 0 195 (dk_at dksX0_ofOrder_2 15 rfl rfl)
theorem dX0_ofOrder_78 : decode cX0_ofOrder 78 = .ok (.ireturn, 1) := dk_172 (dk_at dksX0_ofOrder_2 18 rfl rfl)
theorem dX0_ofOrder_79 : decode cX0_ofOrder 79 = .ok (.aload_n 3, 1) := dk_45 (dk_at dksX0_ofOrder_2 19 rfl rfl)
theorem dX0_ofOrder_80 : decode cX0_ofOrder 80 = .ok (.getfield 267, 3) := dk_180 1 11 (dk_at dksX0_ofOrder_2 20 rfl rfl)
theorem dX0_ofOrder_83 : decode cX0_ofOrder 83 = .ok (.ireturn, 1) := dk_172 (dk_at dksX0_ofOrder_2 23 rfl rfl)
theorem dX0_ofOrder_84 : decode cX0_ofOrder 84 = .ok (.aload_n 0, 1) := dk_42 (dk_at dksX0_ofOrder_3 0 rfl rfl)
theorem dX0_ofOrder_85 : decode cX0_ofOrder 85 = .ok (.getfield 16, 3) := dk_180 0 16 (dk_at dksX0_ofOrder_3 1 rfl rfl)
theorem dX0_ofOrder_88 : decode cX0_ofOrder 88 = .ok (.aload_n 3, 1) := dk_45 (dk_at dksX0_ofOrder_3 4 rfl rfl)
theorem dX0_ofOrder_89 : decode cX0_ofOrder 89 = .ok (.invokevirtual 270, 3) := dk_182 1 14 (dk_at dksX0_ofOrder_3 5 rfl rfl)
theorem dX0_ofOrder_92 : decode cX0_ofOrder 92 = .ok (.ireturn, 1) := dk_172 (dk_at dksX0_ofOrder_3 8 rfl rfl)
theorem dX0_ofOrder_93 : decode cX0_ofOrder 93 = .ok (.bipush (-2), 2) := dk_16 254 (dk_at dksX0_ofOrder_3 9 rfl rfl)
theorem dX0_ofOrder_95 : decode cX0_ofOrder 95 = .ok (.ireturn, 1) := dk_172 (dk_at dksX0_ofOrder_3 11 rfl rfl)
abbrev cX0_ofLorry : ByteArray := prog_1_method_40_code
def yX0_ofLorry : MethodName := ⟨RX0, "ofLorry", "(II)I"⟩
def dkwX0_ofLorry_5 : List UInt8 := [46, 172, 42, 180, 0, 16, 180, 1, 31, 27, 46, 172, 16, 254, 172]
abbrev dktX0_ofLorry_5 : List UInt8 := dkwX0_ofLorry_5 ++ []
def dkwX0_ofLorry_4 : List UInt8 := [180, 0, 205, 27, 46, 172, 42, 180, 0, 16, 180, 0, 208, 27, 46, 172, 42, 180, 0, 16, 180, 0, 211, 27]
abbrev dktX0_ofLorry_4 : List UInt8 := dkwX0_ofLorry_4 ++ dktX0_ofLorry_5
def dkwX0_ofLorry_3 : List UInt8 := [1, 16, 250, 182, 1, 18, 184, 1, 22, 172, 42, 180, 0, 16, 27, 182, 1, 28, 172, 42, 180, 0, 16]
abbrev dktX0_ofLorry_3 : List UInt8 := dkwX0_ofLorry_3 ++ dktX0_ofLorry_4
def dkwX0_ofLorry_2 : List UInt8 := [42, 180, 0, 16, 27, 182, 0, 220, 172, 42, 180, 0, 16, 27, 28, 5, 160, 0, 7, 4, 167, 0, 4, 3]
abbrev dktX0_ofLorry_2 : List UInt8 := dkwX0_ofLorry_2 ++ dktX0_ofLorry_3
def dkwX0_ofLorry_1 : List UInt8 := [170, 0, 0, 0, 0, 129, 0, 0, 0, 0, 0, 0, 0, 7, 0, 0, 0, 46, 0, 0, 0, 55, 0, 0, 0, 55, 0, 0, 0, 80, 0, 0, 0, 89, 0, 0, 0, 99, 0, 0, 0, 109, 0, 0, 0, 119]
abbrev dktX0_ofLorry_1 : List UInt8 := dkwX0_ofLorry_1 ++ dktX0_ofLorry_2
def dkwX0_ofLorry_0 : List UInt8 := [27, 184, 0, 124, 154, 0, 5, 2, 172, 28]
abbrev dktX0_ofLorry_0 : List UInt8 := dkwX0_ofLorry_0 ++ dktX0_ofLorry_1
theorem dksX0_ofLorry_0 : cX0_ofLorry.data.toList.drop 0 = dktX0_ofLorry_0 := by decide +kernel
theorem dksX0_ofLorry_1 : cX0_ofLorry.data.toList.drop 10 = dktX0_ofLorry_1 := dk_seg dksX0_ofLorry_0 10 rfl rfl
theorem dksX0_ofLorry_2 : cX0_ofLorry.data.toList.drop 56 = dktX0_ofLorry_2 := dk_seg dksX0_ofLorry_1 46 rfl rfl
theorem dksX0_ofLorry_3 : cX0_ofLorry.data.toList.drop 80 = dktX0_ofLorry_3 := dk_seg dksX0_ofLorry_2 24 rfl rfl
theorem dksX0_ofLorry_4 : cX0_ofLorry.data.toList.drop 103 = dktX0_ofLorry_4 := dk_seg dksX0_ofLorry_3 23 rfl rfl
theorem dksX0_ofLorry_5 : cX0_ofLorry.data.toList.drop 127 = dktX0_ofLorry_5 := dk_seg dksX0_ofLorry_4 24 rfl rfl
theorem dX0_ofLorry_0 : decode cX0_ofLorry 0 = .ok (.iload_n 1, 1) := dk_27 (dk_at dksX0_ofLorry_0 0 rfl rfl)
theorem dX0_ofLorry_1 : decode cX0_ofLorry 1 = .ok (.invokestatic 124, 3) := dk_184 0 124 (dk_at dksX0_ofLorry_0 1 rfl rfl)
theorem dX0_ofLorry_4 : decode cX0_ofLorry 4 = .ok (.ifCond .ne 5, 3) := dk_154 0 5 (dk_at dksX0_ofLorry_0 4 rfl rfl)
theorem dX0_ofLorry_7 : decode cX0_ofLorry 7 = .ok (.iconst (-1), 1) := dk_2 (dk_at dksX0_ofLorry_0 7 rfl rfl)
theorem dX0_ofLorry_8 : decode cX0_ofLorry 8 = .ok (.ireturn, 1) := dk_172 (dk_at dksX0_ofLorry_0 8 rfl rfl)
theorem dX0_ofLorry_9 : decode cX0_ofLorry 9 = .ok (.iload_n 2, 1) := dk_28 (dk_at dksX0_ofLorry_0 9 rfl rfl)
theorem dX0_ofLorry_10 : decode cX0_ofLorry 10 = .ok (.tableswitch 129 0 7 #[46, 55, 55, 80, 89, 99, 109, 119], 46) := by decide +kernel
theorem dX0_ofLorry_56 : decode cX0_ofLorry 56 = .ok (.aload_n 0, 1) := dk_42 (dk_at dksX0_ofLorry_2 0 rfl rfl)
theorem dX0_ofLorry_57 : decode cX0_ofLorry 57 = .ok (.getfield 16, 3) := dk_180 0 16 (dk_at dksX0_ofLorry_2 1 rfl rfl)
theorem dX0_ofLorry_60 : decode cX0_ofLorry 60 = .ok (.iload_n 1, 1) := dk_27 (dk_at dksX0_ofLorry_2 4 rfl rfl)
theorem dX0_ofLorry_61 : decode cX0_ofLorry 61 = .ok (.invokevirtual 220, 3) := dk_182 0 220 (dk_at dksX0_ofLorry_2 5 rfl rfl)
theorem dX0_ofLorry_64 : decode cX0_ofLorry 64 = .ok (.ireturn, 1) := dk_172 (dk_at dksX0_ofLorry_2 8 rfl rfl)
theorem dX0_ofLorry_65 : decode cX0_ofLorry 65 = .ok (.aload_n 0, 1) := dk_42 (dk_at dksX0_ofLorry_2 9 rfl rfl)
theorem dX0_ofLorry_66 : decode cX0_ofLorry 66 = .ok (.getfield 16, 3) := dk_180 0 16 (dk_at dksX0_ofLorry_2 10 rfl rfl)
theorem dX0_ofLorry_69 : decode cX0_ofLorry 69 = .ok (.iload_n 1, 1) := dk_27 (dk_at dksX0_ofLorry_2 13 rfl rfl)
theorem dX0_ofLorry_70 : decode cX0_ofLorry 70 = .ok (.iload_n 2, 1) := dk_28 (dk_at dksX0_ofLorry_2 14 rfl rfl)
theorem dX0_ofLorry_71 : decode cX0_ofLorry 71 = .ok (.iconst 2, 1) := dk_5 (dk_at dksX0_ofLorry_2 15 rfl rfl)
theorem dX0_ofLorry_72 : decode cX0_ofLorry 72 = .ok (.if_icmp .ne 7, 3) := dk_160 0 7 (dk_at dksX0_ofLorry_2 16 rfl rfl)
theorem dX0_ofLorry_75 : decode cX0_ofLorry 75 = .ok (.iconst 1, 1) := dk_4 (dk_at dksX0_ofLorry_2 19 rfl rfl)
theorem dX0_ofLorry_76 : decode cX0_ofLorry 76 = .ok (.goto 4, 3) := dk_167 0 4 (dk_at dksX0_ofLorry_2 20 rfl rfl)
theorem dX0_ofLorry_79 : decode cX0_ofLorry 79 = .ok (.iconst 0, 1) := dk_3 (dk_at dksX0_ofLorry_2 23 rfl rfl)
theorem dX0_ofLorry_80 : decode cX0_ofLorry 80 = .ok (.aconst_null, 1) := dk_1 (dk_at dksX0_ofLorry_3 0 rfl rfl)
theorem dX0_ofLorry_81 : decode cX0_ofLorry 81 = .ok (.bipush (-6), 2) := dk_16 250 (dk_at dksX0_ofLorry_3 1 rfl rfl)
theorem dX0_ofLorry_83 : decode cX0_ofLorry 83 = .ok (.invokevirtual 274, 3) := dk_182 1 18 (dk_at dksX0_ofLorry_3 3 rfl rfl)
theorem dX0_ofLorry_86 : decode cX0_ofLorry 86 = .ok (.invokestatic 278, 3) := dk_184 1 22 (dk_at dksX0_ofLorry_3 6 rfl rfl)
theorem dX0_ofLorry_89 : decode cX0_ofLorry 89 = .ok (.ireturn, 1) := dk_172 (dk_at dksX0_ofLorry_3 9 rfl rfl)
theorem dX0_ofLorry_90 : decode cX0_ofLorry 90 = .ok (.aload_n 0, 1) := dk_42 (dk_at dksX0_ofLorry_3 10 rfl rfl)
theorem dX0_ofLorry_91 : decode cX0_ofLorry 91 = .ok (.getfield 16, 3) := dk_180 0 16 (dk_at dksX0_ofLorry_3 11 rfl rfl)
theorem dX0_ofLorry_94 : decode cX0_ofLorry 94 = .ok (.iload_n 1, 1) := dk_27 (dk_at dksX0_ofLorry_3 14 rfl rfl)
theorem dX0_ofLorry_95 : decode cX0_ofLorry 95 = .ok (.invokevirtual 284, 3) := dk_182 1 28 (dk_at dksX0_ofLorry_3 15 rfl rfl)
theorem dX0_ofLorry_98 : decode cX0_ofLorry 98 = .ok (.ireturn, 1) := dk_172 (dk_at dksX0_ofLorry_3 18 rfl rfl)
theorem dX0_ofLorry_99 : decode cX0_ofLorry 99 = .ok (.aload_n 0, 1) := dk_42 (dk_at dksX0_ofLorry_3 19 rfl rfl)
theorem dX0_ofLorry_100 : decode cX0_ofLorry 100 = .ok (.getfield 16, 3) := dk_180 0 16 (dk_at dksX0_ofLorry_3 20 rfl rfl)
theorem dX0_ofLorry_103 : decode cX0_ofLorry 103 = .ok (.getfield 205, 3) := dk_180 0 205 (dk_at dksX0_ofLorry_4 0 rfl rfl)
theorem dX0_ofLorry_106 : decode cX0_ofLorry 106 = .ok (.iload_n 1, 1) := dk_27 (dk_at dksX0_ofLorry_4 3 rfl rfl)
theorem dX0_ofLorry_107 : decode cX0_ofLorry 107 = .ok (.iaload, 1) := dk_46 (dk_at dksX0_ofLorry_4 4 rfl rfl)
theorem dX0_ofLorry_108 : decode cX0_ofLorry 108 = .ok (.ireturn, 1) := dk_172 (dk_at dksX0_ofLorry_4 5 rfl rfl)
theorem dX0_ofLorry_109 : decode cX0_ofLorry 109 = .ok (.aload_n 0, 1) := dk_42 (dk_at dksX0_ofLorry_4 6 rfl rfl)
theorem dX0_ofLorry_110 : decode cX0_ofLorry 110 = .ok (.getfield 16, 3) := dk_180 0 16 (dk_at dksX0_ofLorry_4 7 rfl rfl)
theorem dX0_ofLorry_113 : decode cX0_ofLorry 113 = .ok (.getfield 208, 3) := dk_180 0 208 (dk_at dksX0_ofLorry_4 10 rfl rfl)
theorem dX0_ofLorry_116 : decode cX0_ofLorry 116 = .ok (.iload_n 1, 1) := dk_27 (dk_at dksX0_ofLorry_4 13 rfl rfl)
theorem dX0_ofLorry_117 : decode cX0_ofLorry 117 = .ok (.iaload, 1) := dk_46 (dk_at dksX0_ofLorry_4 14 rfl rfl)
theorem dX0_ofLorry_118 : decode cX0_ofLorry 118 = .ok (.ireturn, 1) := dk_172 (dk_at dksX0_ofLorry_4 15 rfl rfl)
theorem dX0_ofLorry_119 : decode cX0_ofLorry 119 = .ok (.aload_n 0, 1) := dk_42 (dk_at dksX0_ofLorry_4 16 rfl rfl)
theorem dX0_ofLorry_120 : decode cX0_ofLorry 120 = .ok (.getfield 16, 3) := dk_180 0 16 (dk_at dksX0_ofLorry_4 17 rfl rfl)
theorem dX0_ofLorry_123 : decode cX0_ofLorry 123 = .ok (.getfield 211, 3) := dk_180 0 211 (dk_at dksX0_ofLorry_4 20 rfl rfl)
theorem dX0_ofLorry_126 : decode cX0_ofLorry 126 = .ok (.iload_n 1, 1) := dk_27 (dk_at dksX0_ofLorry_4 23 rfl rfl)
theorem dX0_ofLorry_127 : decode cX0_ofLorry 127 = .ok (.iaload, 1) := dk_46 (dk_at dksX0_ofLorry_5 0 rfl rfl)
theorem dX0_ofLorry_128 : decode cX0_ofLorry 128 = .ok (.ireturn, 1) := dk_172 (dk_at dksX0_ofLorry_5 1 rfl rfl)
theorem dX0_ofLorry_129 : decode cX0_ofLorry 129 = .ok (.aload_n 0, 1) := dk_42 (dk_at dksX0_ofLorry_5 2 rfl rfl)
theorem dX0_ofLorry_130 : decode cX0_ofLorry 130 = .ok (.getfield 16, 3) := dk_180 0 16 (dk_at dksX0_ofLorry_5 3 rfl rfl)
theorem dX0_ofLorry_133 : decode cX0_ofLorry 133 = .ok (.getfield 287, 3) := dk_180 1 31 (dk_at dksX0_ofLorry_5 6 rfl rfl)
theorem dX0_ofLorry_136 : decode cX0_ofLorry 136 = .ok (.iload_n 1, 1) := dk_27 (dk_at dksX0_ofLorry_5 9 rfl rfl)
theorem dX0_ofLorry_137 : decode cX0_ofLorry 137 = .ok (.iaload, 1) := dk_46 (dk_at dksX0_ofLorry_5 10 rfl rfl)
theorem dX0_ofLorry_138 : decode cX0_ofLorry 138 = .ok (.ireturn, 1) := dk_172 (dk_at dksX0_ofLorry_5 11 rfl rfl)
theorem dX0_ofLorry_139 : decode cX0_ofLorry 139 = .ok (.bipush (-2), 2) := dk_16 254 (dk_at dksX0_ofLorry_5 12 rfl rfl)
theorem dX0_ofLorry_141 : decode cX0_ofLorry 141 = .ok (.ireturn, 1) := dk_172 (dk_at dksX0_ofLorry_5 14 rfl rfl)
abbrev cX0_count : ByteArray := prog_1_method_41_code
def yX0_count : MethodName := ⟨RX0, "count", "(I)I"⟩
def dkwX0_count_9 : List UInt8 := [185, 0, 38, 1, 0, 172, 16, 254, 172]
abbrev dktX0_count_9 : List UInt8 := dkwX0_count_9 ++ []
def dkwX0_count_8 : List UInt8 := [172, 42, 180, 0, 16, 180, 0, 145, 6, 46, 172, 42, 180, 0, 34, 182, 1, 55, 172, 42, 180, 0, 23]
abbrev dktX0_count_8 : List UInt8 := dkwX0_count_8 ++ dktX0_count_9
def dkwX0_count_7 : List UInt8 := [46, 172, 42, 180, 0, 16, 180, 0, 145, 3, 46, 172, 16, 100, 42, 180, 0, 16, 180, 0, 145, 5, 46, 96]
abbrev dktX0_count_7 : List UInt8 := dkwX0_count_7 ++ dktX0_count_8
def dkwX0_count_6 : List UInt8 := [42, 180, 0, 16, 180, 1, 49, 172, 42, 180, 0, 16, 180, 1, 52, 172, 42, 180, 0, 16, 180, 0, 145, 4]
abbrev dktX0_count_6 : List UInt8 := dkwX0_count_6 ++ dktX0_count_7
def dkwX0_count_5 : List UInt8 := [180, 0, 16, 180, 1, 39, 172, 42, 180, 0, 16, 4, 182, 1, 42, 172, 42, 180, 0, 16, 180, 1, 46, 172]
abbrev dktX0_count_5 : List UInt8 := dkwX0_count_5 ++ dktX0_count_6
def dkwX0_count_4 : List UInt8 := [167, 0, 4, 3, 172, 42, 180, 0, 16, 4, 182, 1, 34, 172, 42, 180, 0, 16, 182, 1, 37, 172, 42]
abbrev dktX0_count_4 : List UInt8 := dkwX0_count_4 ++ dktX0_count_5
def dkwX0_count_3 : List UInt8 := [180, 0, 16, 180, 0, 59, 185, 0, 38, 1, 0, 172, 42, 180, 0, 16, 180, 0, 76, 153, 0, 7, 4]
abbrev dktX0_count_3 : List UInt8 := dkwX0_count_3 ++ dktX0_count_4
def dkwX0_count_2 : List UInt8 := [42, 180, 0, 16, 180, 0, 131, 172, 42, 180, 0, 16, 180, 0, 56, 185, 0, 38, 1, 0, 172, 42]
abbrev dktX0_count_2 : List UInt8 := dkwX0_count_2 ++ dktX0_count_3
def dkwX0_count_1 : List UInt8 := [170, 0, 0, 0, 0, 0, 252, 0, 0, 0, 0, 0, 0, 0, 16, 0, 0, 0, 83, 0, 0, 0, 91, 0, 0, 0, 104, 0, 0, 0, 117, 0, 0, 0, 133, 0, 0, 0, 142, 0, 0, 0, 150, 0, 0, 0, 158, 0, 0, 0, 167, 0, 0, 0, 175, 0, 0, 0, 183, 0, 0, 0, 191, 0, 0, 0, 201, 0, 0, 0, 211, 0, 0, 0, 224, 0, 0, 0, 234, 0, 0, 0, 242]
abbrev dktX0_count_1 : List UInt8 := dkwX0_count_1 ++ dktX0_count_2
def dkwX0_count_0 : List UInt8 := [27]
abbrev dktX0_count_0 : List UInt8 := dkwX0_count_0 ++ dktX0_count_1
theorem dksX0_count_0 : cX0_count.data.toList.drop 0 = dktX0_count_0 := by decide +kernel
theorem dksX0_count_1 : cX0_count.data.toList.drop 1 = dktX0_count_1 := dk_seg dksX0_count_0 1 rfl rfl
theorem dksX0_count_2 : cX0_count.data.toList.drop 84 = dktX0_count_2 := dk_seg dksX0_count_1 83 rfl rfl
theorem dksX0_count_3 : cX0_count.data.toList.drop 106 = dktX0_count_3 := dk_seg dksX0_count_2 22 rfl rfl
theorem dksX0_count_4 : cX0_count.data.toList.drop 129 = dktX0_count_4 := dk_seg dksX0_count_3 23 rfl rfl
theorem dksX0_count_5 : cX0_count.data.toList.drop 152 = dktX0_count_5 := dk_seg dksX0_count_4 23 rfl rfl
theorem dksX0_count_6 : cX0_count.data.toList.drop 176 = dktX0_count_6 := dk_seg dksX0_count_5 24 rfl rfl
theorem dksX0_count_7 : cX0_count.data.toList.drop 200 = dktX0_count_7 := dk_seg dksX0_count_6 24 rfl rfl
theorem dksX0_count_8 : cX0_count.data.toList.drop 224 = dktX0_count_8 := dk_seg dksX0_count_7 24 rfl rfl
theorem dksX0_count_9 : cX0_count.data.toList.drop 247 = dktX0_count_9 := dk_seg dksX0_count_8 23 rfl rfl
theorem dX0_count_0 : decode cX0_count 0 = .ok (.iload_n 1, 1) := dk_27 (dk_at dksX0_count_0 0 rfl rfl)
theorem dX0_count_1 : decode cX0_count 1 = .ok (.tableswitch 252 0 16 #[83, 91, 104, 117, 133, 142, 150, 158, 167, 175, 183, 191, 201, 211, 224, 234, 242], 83) := by decide +kernel
theorem dX0_count_84 : decode cX0_count 84 = .ok (.aload_n 0, 1) := dk_42 (dk_at dksX0_count_2 0 rfl rfl)
theorem dX0_count_85 : decode cX0_count 85 = .ok (.getfield 16, 3) := dk_180 0 16 (dk_at dksX0_count_2 1 rfl rfl)
theorem dX0_count_88 : decode cX0_count 88 = .ok (.getfield 131, 3) := dk_180 0 131 (dk_at dksX0_count_2 4 rfl rfl)
theorem dX0_count_91 : decode cX0_count 91 = .ok (.ireturn, 1) := dk_172 (dk_at dksX0_count_2 7 rfl rfl)
theorem dX0_count_92 : decode cX0_count 92 = .ok (.aload_n 0, 1) := dk_42 (dk_at dksX0_count_2 8 rfl rfl)
theorem dX0_count_93 : decode cX0_count 93 = .ok (.getfield 16, 3) := dk_180 0 16 (dk_at dksX0_count_2 9 rfl rfl)
theorem dX0_count_96 : decode cX0_count 96 = .ok (.getfield 56, 3) := dk_180 0 56 (dk_at dksX0_count_2 12 rfl rfl)
theorem dX0_count_99 : decode cX0_count 99 = .ok (.invokeinterface 38 1, 5) := by decide +kernel
theorem dX0_count_104 : decode cX0_count 104 = .ok (.ireturn, 1) := dk_172 (dk_at dksX0_count_2 20 rfl rfl)
theorem dX0_count_105 : decode cX0_count 105 = .ok (.aload_n 0, 1) := dk_42 (dk_at dksX0_count_2 21 rfl rfl)
theorem dX0_count_106 : decode cX0_count 106 = .ok (.getfield 16, 3) := dk_180 0 16 (dk_at dksX0_count_3 0 rfl rfl)
theorem dX0_count_109 : decode cX0_count 109 = .ok (.getfield 59, 3) := dk_180 0 59 (dk_at dksX0_count_3 3 rfl rfl)
theorem dX0_count_112 : decode cX0_count 112 = .ok (.invokeinterface 38 1, 5) := by decide +kernel
theorem dX0_count_117 : decode cX0_count 117 = .ok (.ireturn, 1) := dk_172 (dk_at dksX0_count_3 11 rfl rfl)
theorem dX0_count_118 : decode cX0_count 118 = .ok (.aload_n 0, 1) := dk_42 (dk_at dksX0_count_3 12 rfl rfl)
theorem dX0_count_119 : decode cX0_count 119 = .ok (.getfield 16, 3) := dk_180 0 16 (dk_at dksX0_count_3 13 rfl rfl)
theorem dX0_count_122 : decode cX0_count 122 = .ok (.getfield 76, 3) := dk_180 0 76 (dk_at dksX0_count_3 16 rfl rfl)
theorem dX0_count_125 : decode cX0_count 125 = .ok (.ifCond .eq 7, 3) := dk_153 0 7 (dk_at dksX0_count_3 19 rfl rfl)
theorem dX0_count_128 : decode cX0_count 128 = .ok (.iconst 1, 1) := dk_4 (dk_at dksX0_count_3 22 rfl rfl)
theorem dX0_count_129 : decode cX0_count 129 = .ok (.goto 4, 3) := dk_167 0 4 (dk_at dksX0_count_4 0 rfl rfl)
theorem dX0_count_132 : decode cX0_count 132 = .ok (.iconst 0, 1) := dk_3 (dk_at dksX0_count_4 3 rfl rfl)
theorem dX0_count_133 : decode cX0_count 133 = .ok (.ireturn, 1) := dk_172 (dk_at dksX0_count_4 4 rfl rfl)
theorem dX0_count_134 : decode cX0_count 134 = .ok (.aload_n 0, 1) := dk_42 (dk_at dksX0_count_4 5 rfl rfl)
theorem dX0_count_135 : decode cX0_count 135 = .ok (.getfield 16, 3) := dk_180 0 16 (dk_at dksX0_count_4 6 rfl rfl)
theorem dX0_count_138 : decode cX0_count 138 = .ok (.iconst 1, 1) := dk_4 (dk_at dksX0_count_4 9 rfl rfl)
theorem dX0_count_139 : decode cX0_count 139 = .ok (.invokevirtual 290, 3) := dk_182 1 34 (dk_at dksX0_count_4 10 rfl rfl)
theorem dX0_count_142 : decode cX0_count 142 = .ok (.ireturn, 1) := dk_172 (dk_at dksX0_count_4 13 rfl rfl)
theorem dX0_count_143 : decode cX0_count 143 = .ok (.aload_n 0, 1) := dk_42 (dk_at dksX0_count_4 14 rfl rfl)
theorem dX0_count_144 : decode cX0_count 144 = .ok (.getfield 16, 3) := dk_180 0 16 (dk_at dksX0_count_4 15 rfl rfl)
theorem dX0_count_147 : decode cX0_count 147 = .ok (.invokevirtual 293, 3) := dk_182 1 37 (dk_at dksX0_count_4 18 rfl rfl)
theorem dX0_count_150 : decode cX0_count 150 = .ok (.ireturn, 1) := dk_172 (dk_at dksX0_count_4 21 rfl rfl)
theorem dX0_count_151 : decode cX0_count 151 = .ok (.aload_n 0, 1) := dk_42 (dk_at dksX0_count_4 22 rfl rfl)
theorem dX0_count_152 : decode cX0_count 152 = .ok (.getfield 16, 3) := dk_180 0 16 (dk_at dksX0_count_5 0 rfl rfl)
theorem dX0_count_155 : decode cX0_count 155 = .ok (.getfield 295, 3) := dk_180 1 39 (dk_at dksX0_count_5 3 rfl rfl)
theorem dX0_count_158 : decode cX0_count 158 = .ok (.ireturn, 1) := dk_172 (dk_at dksX0_count_5 6 rfl rfl)
theorem dX0_count_159 : decode cX0_count 159 = .ok (.aload_n 0, 1) := dk_42 (dk_at dksX0_count_5 7 rfl rfl)
theorem dX0_count_160 : decode cX0_count 160 = .ok (.getfield 16, 3) := dk_180 0 16 (dk_at dksX0_count_5 8 rfl rfl)
theorem dX0_count_163 : decode cX0_count 163 = .ok (.iconst 1, 1) := dk_4 (dk_at dksX0_count_5 11 rfl rfl)
theorem dX0_count_164 : decode cX0_count 164 = .ok (.invokevirtual 298, 3) := dk_182 1 42 (dk_at dksX0_count_5 12 rfl rfl)
theorem dX0_count_167 : decode cX0_count 167 = .ok (.ireturn, 1) := dk_172 (dk_at dksX0_count_5 15 rfl rfl)
theorem dX0_count_168 : decode cX0_count 168 = .ok (.aload_n 0, 1) := dk_42 (dk_at dksX0_count_5 16 rfl rfl)
theorem dX0_count_169 : decode cX0_count 169 = .ok (.getfield 16, 3) := dk_180 0 16 (dk_at dksX0_count_5 17 rfl rfl)
theorem dX0_count_172 : decode cX0_count 172 = .ok (.getfield 302, 3) := dk_180 1 46 (dk_at dksX0_count_5 20 rfl rfl)
theorem dX0_count_175 : decode cX0_count 175 = .ok (.ireturn, 1) := dk_172 (dk_at dksX0_count_5 23 rfl rfl)
theorem dX0_count_176 : decode cX0_count 176 = .ok (.aload_n 0, 1) := dk_42 (dk_at dksX0_count_6 0 rfl rfl)
theorem dX0_count_177 : decode cX0_count 177 = .ok (.getfield 16, 3) := dk_180 0 16 (dk_at dksX0_count_6 1 rfl rfl)
theorem dX0_count_180 : decode cX0_count 180 = .ok (.getfield 305, 3) := dk_180 1 49 (dk_at dksX0_count_6 4 rfl rfl)
theorem dX0_count_183 : decode cX0_count 183 = .ok (.ireturn, 1) := dk_172 (dk_at dksX0_count_6 7 rfl rfl)
theorem dX0_count_184 : decode cX0_count 184 = .ok (.aload_n 0, 1) := dk_42 (dk_at dksX0_count_6 8 rfl rfl)
theorem dX0_count_185 : decode cX0_count 185 = .ok (.getfield 16, 3) := dk_180 0 16 (dk_at dksX0_count_6 9 rfl rfl)
theorem dX0_count_188 : decode cX0_count 188 = .ok (.getfield 308, 3) := dk_180 1 52 (dk_at dksX0_count_6 12 rfl rfl)
theorem dX0_count_191 : decode cX0_count 191 = .ok (.ireturn, 1) := dk_172 (dk_at dksX0_count_6 15 rfl rfl)
theorem dX0_count_192 : decode cX0_count 192 = .ok (.aload_n 0, 1) := dk_42 (dk_at dksX0_count_6 16 rfl rfl)
theorem dX0_count_193 : decode cX0_count 193 = .ok (.getfield 16, 3) := dk_180 0 16 (dk_at dksX0_count_6 17 rfl rfl)
theorem dX0_count_196 : decode cX0_count 196 = .ok (.getfield 145, 3) := dk_180 0 145 (dk_at dksX0_count_6 20 rfl rfl)
theorem dX0_count_199 : decode cX0_count 199 = .ok (.iconst 1, 1) := dk_4 (dk_at dksX0_count_6 23 rfl rfl)
theorem dX0_count_200 : decode cX0_count 200 = .ok (.iaload, 1) := dk_46 (dk_at dksX0_count_7 0 rfl rfl)
theorem dX0_count_201 : decode cX0_count 201 = .ok (.ireturn, 1) := dk_172 (dk_at dksX0_count_7 1 rfl rfl)
theorem dX0_count_202 : decode cX0_count 202 = .ok (.aload_n 0, 1) := dk_42 (dk_at dksX0_count_7 2 rfl rfl)
theorem dX0_count_203 : decode cX0_count 203 = .ok (.getfield 16, 3) := dk_180 0 16 (dk_at dksX0_count_7 3 rfl rfl)
theorem dX0_count_206 : decode cX0_count 206 = .ok (.getfield 145, 3) := dk_180 0 145 (dk_at dksX0_count_7 6 rfl rfl)
theorem dX0_count_209 : decode cX0_count 209 = .ok (.iconst 0, 1) := dk_3 (dk_at dksX0_count_7 9 rfl rfl)
theorem dX0_count_210 : decode cX0_count 210 = .ok (.iaload, 1) := dk_46 (dk_at dksX0_count_7 10 rfl rfl)
theorem dX0_count_211 : decode cX0_count 211 = .ok (.ireturn, 1) := dk_172 (dk_at dksX0_count_7 11 rfl rfl)
theorem dX0_count_212 : decode cX0_count 212 = .ok (.bipush 100, 2) := dk_16 100 (dk_at dksX0_count_7 12 rfl rfl)
theorem dX0_count_214 : decode cX0_count 214 = .ok (.aload_n 0, 1) := dk_42 (dk_at dksX0_count_7 14 rfl rfl)
theorem dX0_count_215 : decode cX0_count 215 = .ok (.getfield 16, 3) := dk_180 0 16 (dk_at dksX0_count_7 15 rfl rfl)
theorem dX0_count_218 : decode cX0_count 218 = .ok (.getfield 145, 3) := dk_180 0 145 (dk_at dksX0_count_7 18 rfl rfl)
theorem dX0_count_221 : decode cX0_count 221 = .ok (.iconst 2, 1) := dk_5 (dk_at dksX0_count_7 21 rfl rfl)
theorem dX0_count_222 : decode cX0_count 222 = .ok (.iaload, 1) := dk_46 (dk_at dksX0_count_7 22 rfl rfl)
theorem dX0_count_223 : decode cX0_count 223 = .ok (.iadd, 1) := dk_96 (dk_at dksX0_count_7 23 rfl rfl)
theorem dX0_count_224 : decode cX0_count 224 = .ok (.ireturn, 1) := dk_172 (dk_at dksX0_count_8 0 rfl rfl)
theorem dX0_count_225 : decode cX0_count 225 = .ok (.aload_n 0, 1) := dk_42 (dk_at dksX0_count_8 1 rfl rfl)
theorem dX0_count_226 : decode cX0_count 226 = .ok (.getfield 16, 3) := dk_180 0 16 (dk_at dksX0_count_8 2 rfl rfl)
theorem dX0_count_229 : decode cX0_count 229 = .ok (.getfield 145, 3) := dk_180 0 145 (dk_at dksX0_count_8 5 rfl rfl)
theorem dX0_count_232 : decode cX0_count 232 = .ok (.iconst 3, 1) := dk_6 (dk_at dksX0_count_8 8 rfl rfl)
theorem dX0_count_233 : decode cX0_count 233 = .ok (.iaload, 1) := dk_46 (dk_at dksX0_count_8 9 rfl rfl)
theorem dX0_count_234 : decode cX0_count 234 = .ok (.ireturn, 1) := dk_172 (dk_at dksX0_count_8 10 rfl rfl)
theorem dX0_count_235 : decode cX0_count 235 = .ok (.aload_n 0, 1) := dk_42 (dk_at dksX0_count_8 11 rfl rfl)
theorem dX0_count_236 : decode cX0_count 236 = .ok (.getfield 34, 3) := dk_180 0 34 (dk_at dksX0_count_8 12 rfl rfl)
theorem dX0_count_239 : decode cX0_count 239 = .ok (.invokevirtual 311, 3) := dk_182 1 55 (dk_at dksX0_count_8 15 rfl rfl)
theorem dX0_count_242 : decode cX0_count 242 = .ok (.ireturn, 1) := dk_172 (dk_at dksX0_count_8 18 rfl rfl)
theorem dX0_count_243 : decode cX0_count 243 = .ok (.aload_n 0, 1) := dk_42 (dk_at dksX0_count_8 19 rfl rfl)
theorem dX0_count_244 : decode cX0_count 244 = .ok (.getfield 23, 3) := dk_180 0 23 (dk_at dksX0_count_8 20 rfl rfl)
theorem dX0_count_247 : decode cX0_count 247 = .ok (.invokeinterface 38 1, 5) := by decide +kernel
theorem dX0_count_252 : decode cX0_count 252 = .ok (.ireturn, 1) := dk_172 (dk_at dksX0_count_9 5 rfl rfl)
theorem dX0_count_253 : decode cX0_count 253 = .ok (.bipush (-2), 2) := dk_16 254 (dk_at dksX0_count_9 6 rfl rfl)
theorem dX0_count_255 : decode cX0_count 255 = .ok (.ireturn, 1) := dk_172 (dk_at dksX0_count_9 8 rfl rfl)
abbrev cX0_meanWeight : ByteArray := prog_1_method_42_code
def yX0_meanWeight : MethodName := ⟨RX0, "meanWeight", "()J"⟩
def dkwX0_meanWeight_1 : List UInt8 := [182, 1, 42, 135, 27, 135, 111, 184, 1, 58, 173]
abbrev dktX0_meanWeight_1 : List UInt8 := dkwX0_meanWeight_1 ++ []
def dkwX0_meanWeight_0 : List UInt8 := [42, 180, 0, 16, 3, 182, 1, 42, 60, 27, 154, 0, 7, 14, 167, 0, 15, 42, 180, 0, 16, 4]
abbrev dktX0_meanWeight_0 : List UInt8 := dkwX0_meanWeight_0 ++ dktX0_meanWeight_1
theorem dksX0_meanWeight_0 : cX0_meanWeight.data.toList.drop 0 = dktX0_meanWeight_0 := by decide +kernel
theorem dksX0_meanWeight_1 : cX0_meanWeight.data.toList.drop 22 = dktX0_meanWeight_1 := dk_seg dksX0_meanWeight_0 22 rfl rfl
theorem dX0_meanWeight_0 : decode cX0_meanWeight 0 = .ok (.aload_n 0, 1) := dk_42 (dk_at dksX0_meanWeight_0 0 rfl rfl)
theorem dX0_meanWeight_1 : decode cX0_meanWeight 1 = .ok (.getfield 16, 3) := dk_180 0 16 (dk_at dksX0_meanWeight_0 1 rfl rfl)
theorem dX0_meanWeight_4 : decode cX0_meanWeight 4 = .ok (.iconst 0, 1) := dk_3 (dk_at dksX0_meanWeight_0 4 rfl rfl)
theorem dX0_meanWeight_5 : decode cX0_meanWeight 5 = .ok (.invokevirtual 298, 3) := dk_182 1 42 (dk_at dksX0_meanWeight_0 5 rfl rfl)
theorem dX0_meanWeight_8 : decode cX0_meanWeight 8 = .ok (.istore_n 1, 1) := dk_60 (dk_at dksX0_meanWeight_0 8 rfl rfl)
theorem dX0_meanWeight_9 : decode cX0_meanWeight 9 = .ok (.iload_n 1, 1) := dk_27 (dk_at dksX0_meanWeight_0 9 rfl rfl)
theorem dX0_meanWeight_10 : decode cX0_meanWeight 10 = .ok (.ifCond .ne 7, 3) := dk_154 0 7 (dk_at dksX0_meanWeight_0 10 rfl rfl)
theorem dX0_meanWeight_13 : decode cX0_meanWeight 13 = .ok (.dconst 0, 1) := dk_14 (dk_at dksX0_meanWeight_0 13 rfl rfl)
theorem dX0_meanWeight_14 : decode cX0_meanWeight 14 = .ok (.goto 15, 3) := dk_167 0 15 (dk_at dksX0_meanWeight_0 14 rfl rfl)
theorem dX0_meanWeight_17 : decode cX0_meanWeight 17 = .ok (.aload_n 0, 1) := dk_42 (dk_at dksX0_meanWeight_0 17 rfl rfl)
theorem dX0_meanWeight_18 : decode cX0_meanWeight 18 = .ok (.getfield 16, 3) := dk_180 0 16 (dk_at dksX0_meanWeight_0 18 rfl rfl)
theorem dX0_meanWeight_21 : decode cX0_meanWeight 21 = .ok (.iconst 1, 1) := dk_4 (dk_at dksX0_meanWeight_0 21 rfl rfl)
theorem dX0_meanWeight_22 : decode cX0_meanWeight 22 = .ok (.invokevirtual 298, 3) := dk_182 1 42 (dk_at dksX0_meanWeight_1 0 rfl rfl)
theorem dX0_meanWeight_25 : decode cX0_meanWeight 25 = .ok (.i2d, 1) := dk_135 (dk_at dksX0_meanWeight_1 3 rfl rfl)
theorem dX0_meanWeight_26 : decode cX0_meanWeight 26 = .ok (.iload_n 1, 1) := dk_27 (dk_at dksX0_meanWeight_1 4 rfl rfl)
theorem dX0_meanWeight_27 : decode cX0_meanWeight 27 = .ok (.i2d, 1) := dk_135 (dk_at dksX0_meanWeight_1 5 rfl rfl)
theorem dX0_meanWeight_28 : decode cX0_meanWeight 28 = .ok (.ddiv, 1) := dk_111 (dk_at dksX0_meanWeight_1 6 rfl rfl)
theorem dX0_meanWeight_29 : decode cX0_meanWeight 29 = .ok (.invokestatic 314, 3) := dk_184 1 58 (dk_at dksX0_meanWeight_1 7 rfl rfl)
theorem dX0_meanWeight_32 : decode cX0_meanWeight 32 = .ok (.lreturn, 1) := dk_173 (dk_at dksX0_meanWeight_1 10 rfl rfl)
abbrev cX0_why : ByteArray := prog_1_method_43_code
def yX0_why : MethodName := ⟨RX0, "why", "(I)I"⟩
def dkwX0_why_0 : List UInt8 := [27, 184, 0, 124, 153, 0, 14, 42, 180, 0, 16, 27, 182, 0, 226, 167, 0, 4, 2, 172]
abbrev dktX0_why_0 : List UInt8 := dkwX0_why_0 ++ []
theorem dksX0_why_0 : cX0_why.data.toList.drop 0 = dktX0_why_0 := by decide +kernel
theorem dX0_why_0 : decode cX0_why 0 = .ok (.iload_n 1, 1) := dk_27 (dk_at dksX0_why_0 0 rfl rfl)
theorem dX0_why_1 : decode cX0_why 1 = .ok (.invokestatic 124, 3) := dk_184 0 124 (dk_at dksX0_why_0 1 rfl rfl)
theorem dX0_why_4 : decode cX0_why 4 = .ok (.ifCond .eq 14, 3) := dk_153 0 14 (dk_at dksX0_why_0 4 rfl rfl)
theorem dX0_why_7 : decode cX0_why 7 = .ok (.aload_n 0, 1) := dk_42 (dk_at dksX0_why_0 7 rfl rfl)
theorem dX0_why_8 : decode cX0_why 8 = .ok (.getfield 16, 3) := dk_180 0 16 (dk_at dksX0_why_0 8 rfl rfl)
theorem dX0_why_11 : decode cX0_why 11 = .ok (.iload_n 1, 1) := dk_27 (dk_at dksX0_why_0 11 rfl rfl)
theorem dX0_why_12 : decode cX0_why 12 = .ok (.invokevirtual 226, 3) := dk_182 0 226 (dk_at dksX0_why_0 12 rfl rfl)
theorem dX0_why_15 : decode cX0_why 15 = .ok (.goto 4, 3) := dk_167 0 4 (dk_at dksX0_why_0 15 rfl rfl)
theorem dX0_why_18 : decode cX0_why 18 = .ok (.iconst (-1), 1) := dk_2 (dk_at dksX0_why_0 18 rfl rfl)
theorem dX0_why_19 : decode cX0_why 19 = .ok (.ireturn, 1) := dk_172 (dk_at dksX0_why_0 19 rfl rfl)
abbrev cX0_bestBlock : ByteArray := prog_1_method_44_code
def yX0_bestBlock : MethodName := ⟨RX0, "bestBlock", "(I)I"⟩
def dkwX0_bestBlock_1 : List UInt8 := [16, 251, 167, 0, 15, 42, 180, 0, 16, 42, 27, 182, 0, 113, 182, 1, 64, 172]
abbrev dktX0_bestBlock_1 : List UInt8 := dkwX0_bestBlock_1 ++ []
def dkwX0_bestBlock_0 : List UInt8 := [42, 27, 182, 0, 110, 154, 0, 7, 2, 167, 0, 31, 42, 27, 182, 0, 113, 180, 0, 117, 153, 0, 8]
abbrev dktX0_bestBlock_0 : List UInt8 := dkwX0_bestBlock_0 ++ dktX0_bestBlock_1
theorem dksX0_bestBlock_0 : cX0_bestBlock.data.toList.drop 0 = dktX0_bestBlock_0 := by decide +kernel
theorem dksX0_bestBlock_1 : cX0_bestBlock.data.toList.drop 23 = dktX0_bestBlock_1 := dk_seg dksX0_bestBlock_0 23 rfl rfl
theorem dX0_bestBlock_0 : decode cX0_bestBlock 0 = .ok (.aload_n 0, 1) := dk_42 (dk_at dksX0_bestBlock_0 0 rfl rfl)
theorem dX0_bestBlock_1 : decode cX0_bestBlock 1 = .ok (.iload_n 1, 1) := dk_27 (dk_at dksX0_bestBlock_0 1 rfl rfl)
theorem dX0_bestBlock_2 : decode cX0_bestBlock 2 = .ok (.invokevirtual 110, 3) := dk_182 0 110 (dk_at dksX0_bestBlock_0 2 rfl rfl)
theorem dX0_bestBlock_5 : decode cX0_bestBlock 5 = .ok (.ifCond .ne 7, 3) := dk_154 0 7 (dk_at dksX0_bestBlock_0 5 rfl rfl)
theorem dX0_bestBlock_8 : decode cX0_bestBlock 8 = .ok (.iconst (-1), 1) := dk_2 (dk_at dksX0_bestBlock_0 8 rfl rfl)
theorem dX0_bestBlock_9 : decode cX0_bestBlock 9 = .ok (.goto 31, 3) := dk_167 0 31 (dk_at dksX0_bestBlock_0 9 rfl rfl)
theorem dX0_bestBlock_12 : decode cX0_bestBlock 12 = .ok (.aload_n 0, 1) := dk_42 (dk_at dksX0_bestBlock_0 12 rfl rfl)
theorem dX0_bestBlock_13 : decode cX0_bestBlock 13 = .ok (.iload_n 1, 1) := dk_27 (dk_at dksX0_bestBlock_0 13 rfl rfl)
theorem dX0_bestBlock_14 : decode cX0_bestBlock 14 = .ok (.invokevirtual 113, 3) := dk_182 0 113 (dk_at dksX0_bestBlock_0 14 rfl rfl)
theorem dX0_bestBlock_17 : decode cX0_bestBlock 17 = .ok (.getfield 117, 3) := dk_180 0 117 (dk_at dksX0_bestBlock_0 17 rfl rfl)
theorem dX0_bestBlock_20 : decode cX0_bestBlock 20 = .ok (.ifCond .eq 8, 3) := dk_153 0 8 (dk_at dksX0_bestBlock_0 20 rfl rfl)
theorem dX0_bestBlock_23 : decode cX0_bestBlock 23 = .ok (.bipush (-5), 2) := dk_16 251 (dk_at dksX0_bestBlock_1 0 rfl rfl)
theorem dX0_bestBlock_25 : decode cX0_bestBlock 25 = .ok (.goto 15, 3) := dk_167 0 15 (dk_at dksX0_bestBlock_1 2 rfl rfl)
theorem dX0_bestBlock_28 : decode cX0_bestBlock 28 = .ok (.aload_n 0, 1) := dk_42 (dk_at dksX0_bestBlock_1 5 rfl rfl)
theorem dX0_bestBlock_29 : decode cX0_bestBlock 29 = .ok (.getfield 16, 3) := dk_180 0 16 (dk_at dksX0_bestBlock_1 6 rfl rfl)
theorem dX0_bestBlock_32 : decode cX0_bestBlock 32 = .ok (.aload_n 0, 1) := dk_42 (dk_at dksX0_bestBlock_1 9 rfl rfl)
theorem dX0_bestBlock_33 : decode cX0_bestBlock 33 = .ok (.iload_n 1, 1) := dk_27 (dk_at dksX0_bestBlock_1 10 rfl rfl)
theorem dX0_bestBlock_34 : decode cX0_bestBlock 34 = .ok (.invokevirtual 113, 3) := dk_182 0 113 (dk_at dksX0_bestBlock_1 11 rfl rfl)
theorem dX0_bestBlock_37 : decode cX0_bestBlock 37 = .ok (.invokevirtual 320, 3) := dk_182 1 64 (dk_at dksX0_bestBlock_1 14 rfl rfl)
theorem dX0_bestBlock_40 : decode cX0_bestBlock 40 = .ok (.ireturn, 1) := dk_172 (dk_at dksX0_bestBlock_1 17 rfl rfl)
abbrev cX0_fittingCut : ByteArray := prog_1_method_46_code
def yX0_fittingCut : MethodName := ⟨RX0, "fittingCut", "(III)I"⟩
def dkwX0_fittingCut_4 : List UInt8 := [21, 5, 172, 132, 5, 1, 167, 255, 212, 132, 4, 1, 167, 255, 197, 16, 250, 172]
abbrev dktX0_fittingCut_4 : List UInt8 := dkwX0_fittingCut_4 ++ []
def dkwX0_fittingCut_3 : List UInt8 := [28, 182, 0, 92, 21, 4, 21, 5, 182, 1, 73, 153, 0, 15, 29, 154, 0, 8, 21, 4, 167, 0, 5]
abbrev dktX0_fittingCut_3 : List UInt8 := dkwX0_fittingCut_3 ++ dktX0_fittingCut_4
def dkwX0_fittingCut_2 : List UInt8 := [21, 4, 6, 162, 0, 59, 4, 54, 5, 21, 5, 17, 1, 44, 163, 0, 42, 42, 42, 27, 182, 0, 113, 42]
abbrev dktX0_fittingCut_2 : List UInt8 := dkwX0_fittingCut_2 ++ dktX0_fittingCut_3
def dkwX0_fittingCut_1 : List UInt8 := [154, 0, 6, 16, 254, 172, 42, 42, 28, 182, 0, 92, 182, 0, 96, 154, 0, 6, 16, 251, 172, 3, 54, 4]
abbrev dktX0_fittingCut_1 : List UInt8 := dkwX0_fittingCut_1 ++ dktX0_fittingCut_2
def dkwX0_fittingCut_0 : List UInt8 := [42, 27, 182, 0, 110, 153, 0, 11, 42, 28, 182, 0, 88, 154, 0, 5, 2, 172, 29, 3, 4, 184, 0, 3]
abbrev dktX0_fittingCut_0 : List UInt8 := dkwX0_fittingCut_0 ++ dktX0_fittingCut_1
theorem dksX0_fittingCut_0 : cX0_fittingCut.data.toList.drop 0 = dktX0_fittingCut_0 := by decide +kernel
theorem dksX0_fittingCut_1 : cX0_fittingCut.data.toList.drop 24 = dktX0_fittingCut_1 := dk_seg dksX0_fittingCut_0 24 rfl rfl
theorem dksX0_fittingCut_2 : cX0_fittingCut.data.toList.drop 48 = dktX0_fittingCut_2 := dk_seg dksX0_fittingCut_1 24 rfl rfl
theorem dksX0_fittingCut_3 : cX0_fittingCut.data.toList.drop 72 = dktX0_fittingCut_3 := dk_seg dksX0_fittingCut_2 24 rfl rfl
theorem dksX0_fittingCut_4 : cX0_fittingCut.data.toList.drop 95 = dktX0_fittingCut_4 := dk_seg dksX0_fittingCut_3 23 rfl rfl
theorem dX0_fittingCut_0 : decode cX0_fittingCut 0 = .ok (.aload_n 0, 1) := dk_42 (dk_at dksX0_fittingCut_0 0 rfl rfl)
theorem dX0_fittingCut_1 : decode cX0_fittingCut 1 = .ok (.iload_n 1, 1) := dk_27 (dk_at dksX0_fittingCut_0 1 rfl rfl)
theorem dX0_fittingCut_2 : decode cX0_fittingCut 2 = .ok (.invokevirtual 110, 3) := dk_182 0 110 (dk_at dksX0_fittingCut_0 2 rfl rfl)
theorem dX0_fittingCut_5 : decode cX0_fittingCut 5 = .ok (.ifCond .eq 11, 3) := dk_153 0 11 (dk_at dksX0_fittingCut_0 5 rfl rfl)
theorem dX0_fittingCut_8 : decode cX0_fittingCut 8 = .ok (.aload_n 0, 1) := dk_42 (dk_at dksX0_fittingCut_0 8 rfl rfl)
theorem dX0_fittingCut_9 : decode cX0_fittingCut 9 = .ok (.iload_n 2, 1) := dk_28 (dk_at dksX0_fittingCut_0 9 rfl rfl)
theorem dX0_fittingCut_10 : decode cX0_fittingCut 10 = .ok (.invokevirtual 88, 3) := dk_182 0 88 (dk_at dksX0_fittingCut_0 10 rfl rfl)
theorem dX0_fittingCut_13 : decode cX0_fittingCut 13 = .ok (.ifCond .ne 5, 3) := dk_154 0 5 (dk_at dksX0_fittingCut_0 13 rfl rfl)
theorem dX0_fittingCut_16 : decode cX0_fittingCut 16 = .ok (.iconst (-1), 1) := dk_2 (dk_at dksX0_fittingCut_0 16 rfl rfl)
theorem dX0_fittingCut_17 : decode cX0_fittingCut 17 = .ok (.ireturn, 1) := dk_172 (dk_at dksX0_fittingCut_0 17 rfl rfl)
theorem dX0_fittingCut_18 : decode cX0_fittingCut 18 = .ok (.iload_n 3, 1) := dk_29 (dk_at dksX0_fittingCut_0 18 rfl rfl)
theorem dX0_fittingCut_19 : decode cX0_fittingCut 19 = .ok (.iconst 0, 1) := dk_3 (dk_at dksX0_fittingCut_0 19 rfl rfl)
theorem dX0_fittingCut_20 : decode cX0_fittingCut 20 = .ok (.iconst 1, 1) := dk_4 (dk_at dksX0_fittingCut_0 20 rfl rfl)
theorem dX0_fittingCut_21 : decode cX0_fittingCut 21 = .ok (.invokestatic 3, 3) := dk_184 0 3 (dk_at dksX0_fittingCut_0 21 rfl rfl)
theorem dX0_fittingCut_24 : decode cX0_fittingCut 24 = .ok (.ifCond .ne 6, 3) := dk_154 0 6 (dk_at dksX0_fittingCut_1 0 rfl rfl)
theorem dX0_fittingCut_27 : decode cX0_fittingCut 27 = .ok (.bipush (-2), 2) := dk_16 254 (dk_at dksX0_fittingCut_1 3 rfl rfl)
theorem dX0_fittingCut_29 : decode cX0_fittingCut 29 = .ok (.ireturn, 1) := dk_172 (dk_at dksX0_fittingCut_1 5 rfl rfl)
theorem dX0_fittingCut_30 : decode cX0_fittingCut 30 = .ok (.aload_n 0, 1) := dk_42 (dk_at dksX0_fittingCut_1 6 rfl rfl)
theorem dX0_fittingCut_31 : decode cX0_fittingCut 31 = .ok (.aload_n 0, 1) := dk_42 (dk_at dksX0_fittingCut_1 7 rfl rfl)
theorem dX0_fittingCut_32 : decode cX0_fittingCut 32 = .ok (.iload_n 2, 1) := dk_28 (dk_at dksX0_fittingCut_1 8 rfl rfl)
theorem dX0_fittingCut_33 : decode cX0_fittingCut 33 = .ok (.invokevirtual 92, 3) := dk_182 0 92 (dk_at dksX0_fittingCut_1 9 rfl rfl)
theorem dX0_fittingCut_36 : decode cX0_fittingCut 36 = .ok (.invokevirtual 96, 3) := dk_182 0 96 (dk_at dksX0_fittingCut_1 12 rfl rfl)
theorem dX0_fittingCut_39 : decode cX0_fittingCut 39 = .ok (.ifCond .ne 6, 3) := dk_154 0 6 (dk_at dksX0_fittingCut_1 15 rfl rfl)
theorem dX0_fittingCut_42 : decode cX0_fittingCut 42 = .ok (.bipush (-5), 2) := dk_16 251 (dk_at dksX0_fittingCut_1 18 rfl rfl)
theorem dX0_fittingCut_44 : decode cX0_fittingCut 44 = .ok (.ireturn, 1) := dk_172 (dk_at dksX0_fittingCut_1 20 rfl rfl)
theorem dX0_fittingCut_45 : decode cX0_fittingCut 45 = .ok (.iconst 0, 1) := dk_3 (dk_at dksX0_fittingCut_1 21 rfl rfl)
theorem dX0_fittingCut_46 : decode cX0_fittingCut 46 = .ok (.istore 4, 2) := dk_54 4 (dk_at dksX0_fittingCut_1 22 rfl rfl)
theorem dX0_fittingCut_48 : decode cX0_fittingCut 48 = .ok (.iload 4, 2) := dk_21 4 (dk_at dksX0_fittingCut_2 0 rfl rfl)
theorem dX0_fittingCut_50 : decode cX0_fittingCut 50 = .ok (.iconst 3, 1) := dk_6 (dk_at dksX0_fittingCut_2 2 rfl rfl)
theorem dX0_fittingCut_51 : decode cX0_fittingCut 51 = .ok (.if_icmp .ge 59, 3) := dk_162 0 59 (dk_at dksX0_fittingCut_2 3 rfl rfl)
theorem dX0_fittingCut_54 : decode cX0_fittingCut 54 = .ok (.iconst 1, 1) := dk_4 (dk_at dksX0_fittingCut_2 6 rfl rfl)
theorem dX0_fittingCut_55 : decode cX0_fittingCut 55 = .ok (.istore 5, 2) := dk_54 5 (dk_at dksX0_fittingCut_2 7 rfl rfl)
theorem dX0_fittingCut_57 : decode cX0_fittingCut 57 = .ok (.iload 5, 2) := dk_21 5 (dk_at dksX0_fittingCut_2 9 rfl rfl)
theorem dX0_fittingCut_59 : decode cX0_fittingCut 59 = .ok (.sipush 300, 3) := dk_17 1 44 (dk_at dksX0_fittingCut_2 11 rfl rfl)
theorem dX0_fittingCut_62 : decode cX0_fittingCut 62 = .ok (.if_icmp .gt 42, 3) := dk_163 0 42 (dk_at dksX0_fittingCut_2 14 rfl rfl)
theorem dX0_fittingCut_65 : decode cX0_fittingCut 65 = .ok (.aload_n 0, 1) := dk_42 (dk_at dksX0_fittingCut_2 17 rfl rfl)
theorem dX0_fittingCut_66 : decode cX0_fittingCut 66 = .ok (.aload_n 0, 1) := dk_42 (dk_at dksX0_fittingCut_2 18 rfl rfl)
theorem dX0_fittingCut_67 : decode cX0_fittingCut 67 = .ok (.iload_n 1, 1) := dk_27 (dk_at dksX0_fittingCut_2 19 rfl rfl)
theorem dX0_fittingCut_68 : decode cX0_fittingCut 68 = .ok (.invokevirtual 113, 3) := dk_182 0 113 (dk_at dksX0_fittingCut_2 20 rfl rfl)
theorem dX0_fittingCut_71 : decode cX0_fittingCut 71 = .ok (.aload_n 0, 1) := dk_42 (dk_at dksX0_fittingCut_2 23 rfl rfl)
theorem dX0_fittingCut_72 : decode cX0_fittingCut 72 = .ok (.iload_n 2, 1) := dk_28 (dk_at dksX0_fittingCut_3 0 rfl rfl)
theorem dX0_fittingCut_73 : decode cX0_fittingCut 73 = .ok (.invokevirtual 92, 3) := dk_182 0 92 (dk_at dksX0_fittingCut_3 1 rfl rfl)
theorem dX0_fittingCut_76 : decode cX0_fittingCut 76 = .ok (.iload 4, 2) := dk_21 4 (dk_at dksX0_fittingCut_3 4 rfl rfl)
theorem dX0_fittingCut_78 : decode cX0_fittingCut 78 = .ok (.iload 5, 2) := dk_21 5 (dk_at dksX0_fittingCut_3 6 rfl rfl)
theorem dX0_fittingCut_80 : decode cX0_fittingCut 80 = .ok (.invokevirtual 329, 3) := dk_182 1 73 (dk_at dksX0_fittingCut_3 8 rfl rfl)
theorem dX0_fittingCut_83 : decode cX0_fittingCut 83 = .ok (.ifCond .eq 15, 3) := dk_153 0 15 (dk_at dksX0_fittingCut_3 11 rfl rfl)
theorem dX0_fittingCut_86 : decode cX0_fittingCut 86 = .ok (.iload_n 3, 1) := dk_29 (dk_at dksX0_fittingCut_3 14 rfl rfl)
theorem dX0_fittingCut_87 : decode cX0_fittingCut 87 = .ok (.ifCond .ne 8, 3) := dk_154 0 8 (dk_at dksX0_fittingCut_3 15 rfl rfl)
theorem dX0_fittingCut_90 : decode cX0_fittingCut 90 = .ok (.iload 4, 2) := dk_21 4 (dk_at dksX0_fittingCut_3 18 rfl rfl)
theorem dX0_fittingCut_92 : decode cX0_fittingCut 92 = .ok (.goto 5, 3) := dk_167 0 5 (dk_at dksX0_fittingCut_3 20 rfl rfl)
theorem dX0_fittingCut_95 : decode cX0_fittingCut 95 = .ok (.iload 5, 2) := dk_21 5 (dk_at dksX0_fittingCut_4 0 rfl rfl)
theorem dX0_fittingCut_97 : decode cX0_fittingCut 97 = .ok (.ireturn, 1) := dk_172 (dk_at dksX0_fittingCut_4 2 rfl rfl)
theorem dX0_fittingCut_98 : decode cX0_fittingCut 98 = .ok (.iinc 5 1, 3) := dk_132 5 1 (dk_at dksX0_fittingCut_4 3 rfl rfl)
theorem dX0_fittingCut_101 : decode cX0_fittingCut 101 = .ok (.goto (-44), 3) := dk_167 255 212 (dk_at dksX0_fittingCut_4 6 rfl rfl)
theorem dX0_fittingCut_104 : decode cX0_fittingCut 104 = .ok (.iinc 4 1, 3) := dk_132 4 1 (dk_at dksX0_fittingCut_4 9 rfl rfl)
theorem dX0_fittingCut_107 : decode cX0_fittingCut 107 = .ok (.goto (-59), 3) := dk_167 255 197 (dk_at dksX0_fittingCut_4 12 rfl rfl)
theorem dX0_fittingCut_110 : decode cX0_fittingCut 110 = .ok (.bipush (-6), 2) := dk_16 250 (dk_at dksX0_fittingCut_4 15 rfl rfl)
theorem dX0_fittingCut_112 : decode cX0_fittingCut 112 = .ok (.ireturn, 1) := dk_172 (dk_at dksX0_fittingCut_4 17 rfl rfl)
abbrev cX0_fits : ByteArray := prog_1_method_45_code
def yX0_fits : MethodName := ⟨RX0, "fits", "(LQuarryOrders$Order;LQuarryOrders$Block;II)Z"⟩
def dkwX0_fits_2 : List UInt8 := [46, 182, 1, 71, 155, 0, 7, 4, 167, 0, 4, 3, 172]
abbrev dktX0_fits_2 : List UInt8 := dkwX0_fits_2 ++ []
def dkwX0_fits_1 : List UInt8 := [153, 0, 35, 44, 180, 1, 4, 154, 0, 28, 25, 5, 43, 180, 1, 10, 42, 180, 0, 16, 180, 0, 145, 6]
abbrev dktX0_fits_1 : List UInt8 := dkwX0_fits_1 ++ dktX0_fits_2
def dkwX0_fits_0 : List UInt8 := [44, 180, 0, 244, 29, 21, 4, 182, 1, 67, 58, 5, 42, 180, 0, 16, 44, 29, 21, 4, 182, 0, 100]
abbrev dktX0_fits_0 : List UInt8 := dkwX0_fits_0 ++ dktX0_fits_1
theorem dksX0_fits_0 : cX0_fits.data.toList.drop 0 = dktX0_fits_0 := by decide +kernel
theorem dksX0_fits_1 : cX0_fits.data.toList.drop 23 = dktX0_fits_1 := dk_seg dksX0_fits_0 23 rfl rfl
theorem dksX0_fits_2 : cX0_fits.data.toList.drop 47 = dktX0_fits_2 := dk_seg dksX0_fits_1 24 rfl rfl
theorem dX0_fits_0 : decode cX0_fits 0 = .ok (.aload_n 2, 1) := dk_44 (dk_at dksX0_fits_0 0 rfl rfl)
theorem dX0_fits_1 : decode cX0_fits 1 = .ok (.getfield 244, 3) := dk_180 0 244 (dk_at dksX0_fits_0 1 rfl rfl)
theorem dX0_fits_4 : decode cX0_fits 4 = .ok (.iload_n 3, 1) := dk_29 (dk_at dksX0_fits_0 4 rfl rfl)
theorem dX0_fits_5 : decode cX0_fits 5 = .ok (.iload 4, 2) := dk_21 4 (dk_at dksX0_fits_0 5 rfl rfl)
theorem dX0_fits_7 : decode cX0_fits 7 = .ok (.invokevirtual 323, 3) := dk_182 1 67 (dk_at dksX0_fits_0 7 rfl rfl)
theorem dX0_fits_10 : decode cX0_fits 10 = .ok (.astore 5, 2) := dk_58 5 (dk_at dksX0_fits_0 10 rfl rfl)
theorem dX0_fits_12 : decode cX0_fits 12 = .ok (.aload_n 0, 1) := dk_42 (dk_at dksX0_fits_0 12 rfl rfl)
theorem dX0_fits_13 : decode cX0_fits 13 = .ok (.getfield 16, 3) := dk_180 0 16 (dk_at dksX0_fits_0 13 rfl rfl)
theorem dX0_fits_16 : decode cX0_fits 16 = .ok (.aload_n 2, 1) := dk_44 (dk_at dksX0_fits_0 16 rfl rfl)
theorem dX0_fits_17 : decode cX0_fits 17 = .ok (.iload_n 3, 1) := dk_29 (dk_at dksX0_fits_0 17 rfl rfl)
theorem dX0_fits_18 : decode cX0_fits 18 = .ok (.iload 4, 2) := dk_21 4 (dk_at dksX0_fits_0 18 rfl rfl)
theorem dX0_fits_20 : decode cX0_fits 20 = .ok (.invokevirtual 100, 3) := dk_182 0 100 (dk_at dksX0_fits_0 20 rfl rfl)
theorem dX0_fits_23 : decode cX0_fits 23 = .ok (.ifCond .eq 35, 3) := dk_153 0 35 (dk_at dksX0_fits_1 0 rfl rfl)
theorem dX0_fits_26 : decode cX0_fits 26 = .ok (.aload_n 2, 1) := dk_44 (dk_at dksX0_fits_1 3 rfl rfl)
theorem dX0_fits_27 : decode cX0_fits 27 = .ok (.getfield 260, 3) := dk_180 1 4 (dk_at dksX0_fits_1 4 rfl rfl)
theorem dX0_fits_30 : decode cX0_fits 30 = .ok (.ifCond .ne 28, 3) := dk_154 0 28 (dk_at dksX0_fits_1 7 rfl rfl)
theorem dX0_fits_33 : decode cX0_fits 33 = .ok (.aload 5, 2) := dk_25 5 (dk_at dksX0_fits_1 10 rfl rfl)
theorem dX0_fits_35 : decode cX0_fits 35 = .ok (.aload_n 1, 1) := dk_43 (dk_at dksX0_fits_1 12 rfl rfl)
theorem dX0_fits_36 : decode cX0_fits 36 = .ok (.getfield 266, 3) := dk_180 1 10 (dk_at dksX0_fits_1 13 rfl rfl)
theorem dX0_fits_39 : decode cX0_fits 39 = .ok (.aload_n 0, 1) := dk_42 (dk_at dksX0_fits_1 16 rfl rfl)
theorem dX0_fits_40 : decode cX0_fits 40 = .ok (.getfield 16, 3) := dk_180 0 16 (dk_at dksX0_fits_1 17 rfl rfl)
theorem dX0_fits_43 : decode cX0_fits 43 = .ok (.getfield 145, 3) := dk_180 0 145 (dk_at dksX0_fits_1 20 rfl rfl)
theorem dX0_fits_46 : decode cX0_fits 46 = .ok (.iconst 3, 1) := dk_6 (dk_at dksX0_fits_1 23 rfl rfl)
theorem dX0_fits_47 : decode cX0_fits 47 = .ok (.iaload, 1) := dk_46 (dk_at dksX0_fits_2 0 rfl rfl)
theorem dX0_fits_48 : decode cX0_fits 48 = .ok (.invokevirtual 327, 3) := dk_182 1 71 (dk_at dksX0_fits_2 1 rfl rfl)
theorem dX0_fits_51 : decode cX0_fits 51 = .ok (.ifCond .lt 7, 3) := dk_155 0 7 (dk_at dksX0_fits_2 4 rfl rfl)
theorem dX0_fits_54 : decode cX0_fits 54 = .ok (.iconst 1, 1) := dk_4 (dk_at dksX0_fits_2 7 rfl rfl)
theorem dX0_fits_55 : decode cX0_fits 55 = .ok (.goto 4, 3) := dk_167 0 4 (dk_at dksX0_fits_2 8 rfl rfl)
theorem dX0_fits_58 : decode cX0_fits 58 = .ok (.iconst 0, 1) := dk_3 (dk_at dksX0_fits_2 11 rfl rfl)
theorem dX0_fits_59 : decode cX0_fits 59 = .ok (.ireturn, 1) := dk_172 (dk_at dksX0_fits_2 12 rfl rfl)
abbrev cX0_ifFrost : ByteArray := prog_1_method_47_code
def yX0_ifFrost : MethodName := ⟨RX0, "ifFrost", "()I"⟩
def dkwX0_ifFrost_2 : List UInt8 := [180, 1, 93, 120, 167, 0, 4, 3, 128, 60, 167, 255, 213, 27, 172]
abbrev dktX0_ifFrost_2 : List UInt8 := dkwX0_ifFrost_2 ++ []
def dkwX0_ifFrost_1 : List UInt8 := [44, 185, 1, 86, 1, 0, 192, 0, 65, 78, 27, 42, 180, 0, 16, 45, 182, 1, 90, 153, 0, 12, 4, 45]
abbrev dktX0_ifFrost_1 : List UInt8 := dkwX0_ifFrost_1 ++ dktX0_ifFrost_2
def dkwX0_ifFrost_0 : List UInt8 := [3, 60, 42, 180, 0, 16, 180, 0, 56, 185, 1, 77, 1, 0, 77, 44, 185, 1, 81, 1, 0, 153, 0, 40]
abbrev dktX0_ifFrost_0 : List UInt8 := dkwX0_ifFrost_0 ++ dktX0_ifFrost_1
theorem dksX0_ifFrost_0 : cX0_ifFrost.data.toList.drop 0 = dktX0_ifFrost_0 := by decide +kernel
theorem dksX0_ifFrost_1 : cX0_ifFrost.data.toList.drop 24 = dktX0_ifFrost_1 := dk_seg dksX0_ifFrost_0 24 rfl rfl
theorem dksX0_ifFrost_2 : cX0_ifFrost.data.toList.drop 48 = dktX0_ifFrost_2 := dk_seg dksX0_ifFrost_1 24 rfl rfl
theorem dX0_ifFrost_0 : decode cX0_ifFrost 0 = .ok (.iconst 0, 1) := dk_3 (dk_at dksX0_ifFrost_0 0 rfl rfl)
theorem dX0_ifFrost_1 : decode cX0_ifFrost 1 = .ok (.istore_n 1, 1) := dk_60 (dk_at dksX0_ifFrost_0 1 rfl rfl)
theorem dX0_ifFrost_2 : decode cX0_ifFrost 2 = .ok (.aload_n 0, 1) := dk_42 (dk_at dksX0_ifFrost_0 2 rfl rfl)
theorem dX0_ifFrost_3 : decode cX0_ifFrost 3 = .ok (.getfield 16, 3) := dk_180 0 16 (dk_at dksX0_ifFrost_0 3 rfl rfl)
theorem dX0_ifFrost_6 : decode cX0_ifFrost 6 = .ok (.getfield 56, 3) := dk_180 0 56 (dk_at dksX0_ifFrost_0 6 rfl rfl)
theorem dX0_ifFrost_9 : decode cX0_ifFrost 9 = .ok (.invokeinterface 333 1, 5) := by decide +kernel
theorem dX0_ifFrost_14 : decode cX0_ifFrost 14 = .ok (.astore_n 2, 1) := dk_77 (dk_at dksX0_ifFrost_0 14 rfl rfl)
theorem dX0_ifFrost_15 : decode cX0_ifFrost 15 = .ok (.aload_n 2, 1) := dk_44 (dk_at dksX0_ifFrost_0 15 rfl rfl)
theorem dX0_ifFrost_16 : decode cX0_ifFrost 16 = .ok (.invokeinterface 337 1, 5) := by decide +kernel
theorem dX0_ifFrost_21 : decode cX0_ifFrost 21 = .ok (.ifCond .eq 40, 3) := dk_153 0 40 (dk_at dksX0_ifFrost_0 21 rfl rfl)
theorem dX0_ifFrost_24 : decode cX0_ifFrost 24 = .ok (.aload_n 2, 1) := dk_44 (dk_at dksX0_ifFrost_1 0 rfl rfl)
theorem dX0_ifFrost_25 : decode cX0_ifFrost 25 = .ok (.invokeinterface 342 1, 5) := by decide +kernel
theorem dX0_ifFrost_30 : decode cX0_ifFrost 30 = .ok (.checkcast 65, 3) := dk_192 0 65 (dk_at dksX0_ifFrost_1 6 rfl rfl)
theorem dX0_ifFrost_33 : decode cX0_ifFrost 33 = .ok (.astore_n 3, 1) := dk_78 (dk_at dksX0_ifFrost_1 9 rfl rfl)
theorem dX0_ifFrost_34 : decode cX0_ifFrost 34 = .ok (.iload_n 1, 1) := dk_27 (dk_at dksX0_ifFrost_1 10 rfl rfl)
theorem dX0_ifFrost_35 : decode cX0_ifFrost 35 = .ok (.aload_n 0, 1) := dk_42 (dk_at dksX0_ifFrost_1 11 rfl rfl)
theorem dX0_ifFrost_36 : decode cX0_ifFrost 36 = .ok (.getfield 16, 3) := dk_180 0 16 (dk_at dksX0_ifFrost_1 12 rfl rfl)
theorem dX0_ifFrost_39 : decode cX0_ifFrost 39 = .ok (.aload_n 3, 1) := dk_45 (dk_at dksX0_ifFrost_1 15 rfl rfl)
theorem dX0_ifFrost_40 : decode cX0_ifFrost 40 = .ok (.invokevirtual 346, 3) := dk_182 1 90 (dk_at dksX0_ifFrost_1 16 rfl rfl)
theorem dX0_ifFrost_43 : decode cX0_ifFrost 43 = .ok (.ifCond .eq 12, 3) := dk_153 0 12 (dk_at dksX0_ifFrost_1 19 rfl rfl)
theorem dX0_ifFrost_46 : decode cX0_ifFrost 46 = .ok (.iconst 1, 1) := dk_4 (dk_at dksX0_ifFrost_1 22 rfl rfl)
theorem dX0_ifFrost_47 : decode cX0_ifFrost 47 = .ok (.aload_n 3, 1) := dk_45 (dk_at dksX0_ifFrost_1 23 rfl rfl)
theorem dX0_ifFrost_48 : decode cX0_ifFrost 48 = .ok (.getfield 349, 3) := dk_180 1 93 (dk_at dksX0_ifFrost_2 0 rfl rfl)
theorem dX0_ifFrost_51 : decode cX0_ifFrost 51 = .ok (.ishl, 1) := dk_120 (dk_at dksX0_ifFrost_2 3 rfl rfl)
theorem dX0_ifFrost_52 : decode cX0_ifFrost 52 = .ok (.goto 4, 3) := dk_167 0 4 (dk_at dksX0_ifFrost_2 4 rfl rfl)
theorem dX0_ifFrost_55 : decode cX0_ifFrost 55 = .ok (.iconst 0, 1) := dk_3 (dk_at dksX0_ifFrost_2 7 rfl rfl)
theorem dX0_ifFrost_56 : decode cX0_ifFrost 56 = .ok (.ior, 1) := dk_128 (dk_at dksX0_ifFrost_2 8 rfl rfl)
theorem dX0_ifFrost_57 : decode cX0_ifFrost 57 = .ok (.istore_n 1, 1) := dk_60 (dk_at dksX0_ifFrost_2 9 rfl rfl)
theorem dX0_ifFrost_58 : decode cX0_ifFrost 58 = .ok (.goto (-43), 3) := dk_167 255 213 (dk_at dksX0_ifFrost_2 10 rfl rfl)
theorem dX0_ifFrost_61 : decode cX0_ifFrost 61 = .ok (.iload_n 1, 1) := dk_27 (dk_at dksX0_ifFrost_2 13 rfl rfl)
theorem dX0_ifFrost_62 : decode cX0_ifFrost 62 = .ok (.ireturn, 1) := dk_172 (dk_at dksX0_ifFrost_2 14 rfl rfl)
abbrev cX0_bestPlace : ByteArray := prog_1_method_48_code
def yX0_bestPlace : MethodName := ⟨RX0, "bestPlace", "(II)I"⟩
def dkwX0_bestPlace_7 : List UInt8 := [21, 10, 153, 0, 8, 23, 9, 167, 0, 5, 23, 5, 56, 5, 132, 6, 1, 167, 255, 119, 21, 4, 172]
abbrev dktX0_bestPlace_7 : List UInt8 := dkwX0_bestPlace_7 ++ []
def dkwX0_bestPlace_6 : List UInt8 := [156, 0, 7, 4, 167, 0, 4, 3, 54, 10, 21, 10, 153, 0, 8, 21, 6, 167, 0, 5, 21, 4, 54, 4]
abbrev dktX0_bestPlace_6 : List UInt8 := dkwX0_bestPlace_6 ++ dktX0_bestPlace_7
def dkwX0_bestPlace_5 : List UInt8 := [180, 0, 16, 28, 21, 6, 182, 0, 127, 199, 0, 20, 21, 4, 155, 0, 11, 23, 9, 23, 5, 150]
abbrev dktX0_bestPlace_5 : List UInt8 := dkwX0_bestPlace_5 ++ dktX0_bestPlace_6
def dkwX0_bestPlace_4 : List UInt8 := [46, 134, 110, 56, 8, 23, 7, 23, 8, 149, 158, 0, 8, 23, 7, 167, 0, 5, 23, 8, 56, 9, 42]
abbrev dktX0_bestPlace_4 : List UInt8 := dkwX0_bestPlace_4 ++ dktX0_bestPlace_5
def dkwX0_bestPlace_3 : List UInt8 := [134, 110, 56, 7, 42, 180, 0, 16, 28, 4, 45, 21, 6, 182, 1, 18, 42, 180, 0, 16, 180, 0, 208, 28]
abbrev dktX0_bestPlace_3 : List UInt8 := dkwX0_bestPlace_3 ++ dktX0_bestPlace_4
def dkwX0_bestPlace_2 : List UInt8 := [162, 0, 137, 42, 180, 0, 16, 28, 3, 45, 21, 6, 182, 1, 18, 42, 180, 0, 16, 180, 0, 205, 28, 46]
abbrev dktX0_bestPlace_2 : List UInt8 := dkwX0_bestPlace_2 ++ dktX0_bestPlace_3
def dkwX0_bestPlace_1 : List UInt8 := [182, 0, 80, 154, 0, 6, 16, 251, 172, 16, 250, 54, 4, 11, 56, 5, 3, 54, 6, 21, 6, 8]
abbrev dktX0_bestPlace_1 : List UInt8 := dkwX0_bestPlace_1 ++ dktX0_bestPlace_2
def dkwX0_bestPlace_0 : List UInt8 := [42, 27, 182, 0, 88, 153, 0, 10, 28, 184, 0, 124, 154, 0, 5, 2, 172, 42, 27, 182, 0, 92, 78, 45]
abbrev dktX0_bestPlace_0 : List UInt8 := dkwX0_bestPlace_0 ++ dktX0_bestPlace_1
theorem dksX0_bestPlace_0 : cX0_bestPlace.data.toList.drop 0 = dktX0_bestPlace_0 := by decide +kernel
theorem dksX0_bestPlace_1 : cX0_bestPlace.data.toList.drop 24 = dktX0_bestPlace_1 := dk_seg dksX0_bestPlace_0 24 rfl rfl
theorem dksX0_bestPlace_2 : cX0_bestPlace.data.toList.drop 46 = dktX0_bestPlace_2 := dk_seg dksX0_bestPlace_1 22 rfl rfl
theorem dksX0_bestPlace_3 : cX0_bestPlace.data.toList.drop 70 = dktX0_bestPlace_3 := dk_seg dksX0_bestPlace_2 24 rfl rfl
theorem dksX0_bestPlace_4 : cX0_bestPlace.data.toList.drop 94 = dktX0_bestPlace_4 := dk_seg dksX0_bestPlace_3 24 rfl rfl
theorem dksX0_bestPlace_5 : cX0_bestPlace.data.toList.drop 117 = dktX0_bestPlace_5 := dk_seg dksX0_bestPlace_4 23 rfl rfl
theorem dksX0_bestPlace_6 : cX0_bestPlace.data.toList.drop 139 = dktX0_bestPlace_6 := dk_seg dksX0_bestPlace_5 22 rfl rfl
theorem dksX0_bestPlace_7 : cX0_bestPlace.data.toList.drop 163 = dktX0_bestPlace_7 := dk_seg dksX0_bestPlace_6 24 rfl rfl
theorem dX0_bestPlace_0 : decode cX0_bestPlace 0 = .ok (.aload_n 0, 1) := dk_42 (dk_at dksX0_bestPlace_0 0 rfl rfl)
theorem dX0_bestPlace_1 : decode cX0_bestPlace 1 = .ok (.iload_n 1, 1) := dk_27 (dk_at dksX0_bestPlace_0 1 rfl rfl)
theorem dX0_bestPlace_2 : decode cX0_bestPlace 2 = .ok (.invokevirtual 88, 3) := dk_182 0 88 (dk_at dksX0_bestPlace_0 2 rfl rfl)
theorem dX0_bestPlace_5 : decode cX0_bestPlace 5 = .ok (.ifCond .eq 10, 3) := dk_153 0 10 (dk_at dksX0_bestPlace_0 5 rfl rfl)
theorem dX0_bestPlace_8 : decode cX0_bestPlace 8 = .ok (.iload_n 2, 1) := dk_28 (dk_at dksX0_bestPlace_0 8 rfl rfl)
theorem dX0_bestPlace_9 : decode cX0_bestPlace 9 = .ok (.invokestatic 124, 3) := dk_184 0 124 (dk_at dksX0_bestPlace_0 9 rfl rfl)
theorem dX0_bestPlace_12 : decode cX0_bestPlace 12 = .ok (.ifCond .ne 5, 3) := dk_154 0 5 (dk_at dksX0_bestPlace_0 12 rfl rfl)
theorem dX0_bestPlace_15 : decode cX0_bestPlace 15 = .ok (.iconst (-1), 1) := dk_2 (dk_at dksX0_bestPlace_0 15 rfl rfl)
theorem dX0_bestPlace_16 : decode cX0_bestPlace 16 = .ok (.ireturn, 1) := dk_172 (dk_at dksX0_bestPlace_0 16 rfl rfl)
theorem dX0_bestPlace_17 : decode cX0_bestPlace 17 = .ok (.aload_n 0, 1) := dk_42 (dk_at dksX0_bestPlace_0 17 rfl rfl)
theorem dX0_bestPlace_18 : decode cX0_bestPlace 18 = .ok (.iload_n 1, 1) := dk_27 (dk_at dksX0_bestPlace_0 18 rfl rfl)
theorem dX0_bestPlace_19 : decode cX0_bestPlace 19 = .ok (.invokevirtual 92, 3) := dk_182 0 92 (dk_at dksX0_bestPlace_0 19 rfl rfl)
theorem dX0_bestPlace_22 : decode cX0_bestPlace 22 = .ok (.astore_n 3, 1) := dk_78 (dk_at dksX0_bestPlace_0 22 rfl rfl)
theorem dX0_bestPlace_23 : decode cX0_bestPlace 23 = .ok (.aload_n 3, 1) := dk_45 (dk_at dksX0_bestPlace_0 23 rfl rfl)
theorem dX0_bestPlace_24 : decode cX0_bestPlace 24 = .ok (.invokevirtual 80, 3) := dk_182 0 80 (dk_at dksX0_bestPlace_1 0 rfl rfl)
theorem dX0_bestPlace_27 : decode cX0_bestPlace 27 = .ok (.ifCond .ne 6, 3) := dk_154 0 6 (dk_at dksX0_bestPlace_1 3 rfl rfl)
theorem dX0_bestPlace_30 : decode cX0_bestPlace 30 = .ok (.bipush (-5), 2) := dk_16 251 (dk_at dksX0_bestPlace_1 6 rfl rfl)
theorem dX0_bestPlace_32 : decode cX0_bestPlace 32 = .ok (.ireturn, 1) := dk_172 (dk_at dksX0_bestPlace_1 8 rfl rfl)
theorem dX0_bestPlace_33 : decode cX0_bestPlace 33 = .ok (.bipush (-6), 2) := dk_16 250 (dk_at dksX0_bestPlace_1 9 rfl rfl)
theorem dX0_bestPlace_35 : decode cX0_bestPlace 35 = .ok (.istore 4, 2) := dk_54 4 (dk_at dksX0_bestPlace_1 11 rfl rfl)
theorem dX0_bestPlace_37 : decode cX0_bestPlace 37 = .ok (.fconst 0, 1) := dk_11 (dk_at dksX0_bestPlace_1 13 rfl rfl)
theorem dX0_bestPlace_38 : decode cX0_bestPlace 38 = .ok (.fstore 5, 2) := dk_56 5 (dk_at dksX0_bestPlace_1 14 rfl rfl)
theorem dX0_bestPlace_40 : decode cX0_bestPlace 40 = .ok (.iconst 0, 1) := dk_3 (dk_at dksX0_bestPlace_1 16 rfl rfl)
theorem dX0_bestPlace_41 : decode cX0_bestPlace 41 = .ok (.istore 6, 2) := dk_54 6 (dk_at dksX0_bestPlace_1 17 rfl rfl)
theorem dX0_bestPlace_43 : decode cX0_bestPlace 43 = .ok (.iload 6, 2) := dk_21 6 (dk_at dksX0_bestPlace_1 19 rfl rfl)
theorem dX0_bestPlace_45 : decode cX0_bestPlace 45 = .ok (.iconst 5, 1) := dk_8 (dk_at dksX0_bestPlace_1 21 rfl rfl)
theorem dX0_bestPlace_46 : decode cX0_bestPlace 46 = .ok (.if_icmp .ge 137, 3) := dk_162 0 137 (dk_at dksX0_bestPlace_2 0 rfl rfl)
theorem dX0_bestPlace_49 : decode cX0_bestPlace 49 = .ok (.aload_n 0, 1) := dk_42 (dk_at dksX0_bestPlace_2 3 rfl rfl)
theorem dX0_bestPlace_50 : decode cX0_bestPlace 50 = .ok (.getfield 16, 3) := dk_180 0 16 (dk_at dksX0_bestPlace_2 4 rfl rfl)
theorem dX0_bestPlace_53 : decode cX0_bestPlace 53 = .ok (.iload_n 2, 1) := dk_28 (dk_at dksX0_bestPlace_2 7 rfl rfl)
theorem dX0_bestPlace_54 : decode cX0_bestPlace 54 = .ok (.iconst 0, 1) := dk_3 (dk_at dksX0_bestPlace_2 8 rfl rfl)
theorem dX0_bestPlace_55 : decode cX0_bestPlace 55 = .ok (.aload_n 3, 1) := dk_45 (dk_at dksX0_bestPlace_2 9 rfl rfl)
theorem dX0_bestPlace_56 : decode cX0_bestPlace 56 = .ok (.iload 6, 2) := dk_21 6 (dk_at dksX0_bestPlace_2 10 rfl rfl)
theorem dX0_bestPlace_58 : decode cX0_bestPlace 58 = .ok (.invokevirtual 274, 3) := dk_182 1 18 (dk_at dksX0_bestPlace_2 12 rfl rfl)
theorem dX0_bestPlace_61 : decode cX0_bestPlace 61 = .ok (.aload_n 0, 1) := dk_42 (dk_at dksX0_bestPlace_2 15 rfl rfl)
theorem dX0_bestPlace_62 : decode cX0_bestPlace 62 = .ok (.getfield 16, 3) := dk_180 0 16 (dk_at dksX0_bestPlace_2 16 rfl rfl)
theorem dX0_bestPlace_65 : decode cX0_bestPlace 65 = .ok (.getfield 205, 3) := dk_180 0 205 (dk_at dksX0_bestPlace_2 19 rfl rfl)
theorem dX0_bestPlace_68 : decode cX0_bestPlace 68 = .ok (.iload_n 2, 1) := dk_28 (dk_at dksX0_bestPlace_2 22 rfl rfl)
theorem dX0_bestPlace_69 : decode cX0_bestPlace 69 = .ok (.iaload, 1) := dk_46 (dk_at dksX0_bestPlace_2 23 rfl rfl)
theorem dX0_bestPlace_70 : decode cX0_bestPlace 70 = .ok (.i2f, 1) := dk_134 (dk_at dksX0_bestPlace_3 0 rfl rfl)
theorem dX0_bestPlace_71 : decode cX0_bestPlace 71 = .ok (.fdiv, 1) := dk_110 (dk_at dksX0_bestPlace_3 1 rfl rfl)
theorem dX0_bestPlace_72 : decode cX0_bestPlace 72 = .ok (.fstore 7, 2) := dk_56 7 (dk_at dksX0_bestPlace_3 2 rfl rfl)
theorem dX0_bestPlace_74 : decode cX0_bestPlace 74 = .ok (.aload_n 0, 1) := dk_42 (dk_at dksX0_bestPlace_3 4 rfl rfl)
theorem dX0_bestPlace_75 : decode cX0_bestPlace 75 = .ok (.getfield 16, 3) := dk_180 0 16 (dk_at dksX0_bestPlace_3 5 rfl rfl)
theorem dX0_bestPlace_78 : decode cX0_bestPlace 78 = .ok (.iload_n 2, 1) := dk_28 (dk_at dksX0_bestPlace_3 8 rfl rfl)
theorem dX0_bestPlace_79 : decode cX0_bestPlace 79 = .ok (.iconst 1, 1) := dk_4 (dk_at dksX0_bestPlace_3 9 rfl rfl)
theorem dX0_bestPlace_80 : decode cX0_bestPlace 80 = .ok (.aload_n 3, 1) := dk_45 (dk_at dksX0_bestPlace_3 10 rfl rfl)
theorem dX0_bestPlace_81 : decode cX0_bestPlace 81 = .ok (.iload 6, 2) := dk_21 6 (dk_at dksX0_bestPlace_3 11 rfl rfl)
theorem dX0_bestPlace_83 : decode cX0_bestPlace 83 = .ok (.invokevirtual 274, 3) := dk_182 1 18 (dk_at dksX0_bestPlace_3 13 rfl rfl)
theorem dX0_bestPlace_86 : decode cX0_bestPlace 86 = .ok (.aload_n 0, 1) := dk_42 (dk_at dksX0_bestPlace_3 16 rfl rfl)
theorem dX0_bestPlace_87 : decode cX0_bestPlace 87 = .ok (.getfield 16, 3) := dk_180 0 16 (dk_at dksX0_bestPlace_3 17 rfl rfl)
theorem dX0_bestPlace_90 : decode cX0_bestPlace 90 = .ok (.getfield 208, 3) := dk_180 0 208 (dk_at dksX0_bestPlace_3 20 rfl rfl)
theorem dX0_bestPlace_93 : decode cX0_bestPlace 93 = .ok (.iload_n 2, 1) := dk_28 (dk_at dksX0_bestPlace_3 23 rfl rfl)
theorem dX0_bestPlace_94 : decode cX0_bestPlace 94 = .ok (.iaload, 1) := dk_46 (dk_at dksX0_bestPlace_4 0 rfl rfl)
theorem dX0_bestPlace_95 : decode cX0_bestPlace 95 = .ok (.i2f, 1) := dk_134 (dk_at dksX0_bestPlace_4 1 rfl rfl)
theorem dX0_bestPlace_96 : decode cX0_bestPlace 96 = .ok (.fdiv, 1) := dk_110 (dk_at dksX0_bestPlace_4 2 rfl rfl)
theorem dX0_bestPlace_97 : decode cX0_bestPlace 97 = .ok (.fstore 8, 2) := dk_56 8 (dk_at dksX0_bestPlace_4 3 rfl rfl)
theorem dX0_bestPlace_99 : decode cX0_bestPlace 99 = .ok (.fload 7, 2) := dk_23 7 (dk_at dksX0_bestPlace_4 5 rfl rfl)
theorem dX0_bestPlace_101 : decode cX0_bestPlace 101 = .ok (.fload 8, 2) := dk_23 8 (dk_at dksX0_bestPlace_4 7 rfl rfl)
theorem dX0_bestPlace_103 : decode cX0_bestPlace 103 = .ok (.fcmp .l, 1) := dk_149 (dk_at dksX0_bestPlace_4 9 rfl rfl)
theorem dX0_bestPlace_104 : decode cX0_bestPlace 104 = .ok (.ifCond .le 8, 3) := dk_158 0 8 (dk_at dksX0_bestPlace_4 10 rfl rfl)
theorem dX0_bestPlace_107 : decode cX0_bestPlace 107 = .ok (.fload 7, 2) := dk_23 7 (dk_at dksX0_bestPlace_4 13 rfl rfl)
theorem dX0_bestPlace_109 : decode cX0_bestPlace 109 = .ok (.goto 5, 3) := dk_167 0 5 (dk_at dksX0_bestPlace_4 15 rfl rfl)
theorem dX0_bestPlace_112 : decode cX0_bestPlace 112 = .ok (.fload 8, 2) := dk_23 8 (dk_at dksX0_bestPlace_4 18 rfl rfl)
theorem dX0_bestPlace_114 : decode cX0_bestPlace 114 = .ok (.fstore 9, 2) := dk_56 9 (dk_at dksX0_bestPlace_4 20 rfl rfl)
theorem dX0_bestPlace_116 : decode cX0_bestPlace 116 = .ok (.aload_n 0, 1) := dk_42 (dk_at dksX0_bestPlace_4 22 rfl rfl)
theorem dX0_bestPlace_117 : decode cX0_bestPlace 117 = .ok (.getfield 16, 3) := dk_180 0 16 (dk_at dksX0_bestPlace_5 0 rfl rfl)
theorem dX0_bestPlace_120 : decode cX0_bestPlace 120 = .ok (.iload_n 2, 1) := dk_28 (dk_at dksX0_bestPlace_5 3 rfl rfl)
theorem dX0_bestPlace_121 : decode cX0_bestPlace 121 = .ok (.iload 6, 2) := dk_21 6 (dk_at dksX0_bestPlace_5 4 rfl rfl)
theorem dX0_bestPlace_123 : decode cX0_bestPlace 123 = .ok (.invokevirtual 127, 3) := dk_182 0 127 (dk_at dksX0_bestPlace_5 6 rfl rfl)
theorem dX0_bestPlace_126 : decode cX0_bestPlace 126 = .ok (.ifnonnull 20, 3) := dk_199 0 20 (dk_at dksX0_bestPlace_5 9 rfl rfl)
theorem dX0_bestPlace_129 : decode cX0_bestPlace 129 = .ok (.iload 4, 2) := dk_21 4 (dk_at dksX0_bestPlace_5 12 rfl rfl)
theorem dX0_bestPlace_131 : decode cX0_bestPlace 131 = .ok (.ifCond .lt 11, 3) := dk_155 0 11 (dk_at dksX0_bestPlace_5 14 rfl rfl)
theorem dX0_bestPlace_134 : decode cX0_bestPlace 134 = .ok (.fload 9, 2) := dk_23 9 (dk_at dksX0_bestPlace_5 17 rfl rfl)
theorem dX0_bestPlace_136 : decode cX0_bestPlace 136 = .ok (.fload 5, 2) := dk_23 5 (dk_at dksX0_bestPlace_5 19 rfl rfl)
theorem dX0_bestPlace_138 : decode cX0_bestPlace 138 = .ok (.fcmp .g, 1) := dk_150 (dk_at dksX0_bestPlace_5 21 rfl rfl)
theorem dX0_bestPlace_139 : decode cX0_bestPlace 139 = .ok (.ifCond .ge 7, 3) := dk_156 0 7 (dk_at dksX0_bestPlace_6 0 rfl rfl)
theorem dX0_bestPlace_142 : decode cX0_bestPlace 142 = .ok (.iconst 1, 1) := dk_4 (dk_at dksX0_bestPlace_6 3 rfl rfl)
theorem dX0_bestPlace_143 : decode cX0_bestPlace 143 = .ok (.goto 4, 3) := dk_167 0 4 (dk_at dksX0_bestPlace_6 4 rfl rfl)
theorem dX0_bestPlace_146 : decode cX0_bestPlace 146 = .ok (.iconst 0, 1) := dk_3 (dk_at dksX0_bestPlace_6 7 rfl rfl)
theorem dX0_bestPlace_147 : decode cX0_bestPlace 147 = .ok (.istore 10, 2) := dk_54 10 (dk_at dksX0_bestPlace_6 8 rfl rfl)
theorem dX0_bestPlace_149 : decode cX0_bestPlace 149 = .ok (.iload 10, 2) := dk_21 10 (dk_at dksX0_bestPlace_6 10 rfl rfl)
theorem dX0_bestPlace_151 : decode cX0_bestPlace 151 = .ok (.ifCond .eq 8, 3) := dk_153 0 8 (dk_at dksX0_bestPlace_6 12 rfl rfl)
theorem dX0_bestPlace_154 : decode cX0_bestPlace 154 = .ok (.iload 6, 2) := dk_21 6 (dk_at dksX0_bestPlace_6 15 rfl rfl)
theorem dX0_bestPlace_156 : decode cX0_bestPlace 156 = .ok (.goto 5, 3) := dk_167 0 5 (dk_at dksX0_bestPlace_6 17 rfl rfl)
theorem dX0_bestPlace_159 : decode cX0_bestPlace 159 = .ok (.iload 4, 2) := dk_21 4 (dk_at dksX0_bestPlace_6 20 rfl rfl)
theorem dX0_bestPlace_161 : decode cX0_bestPlace 161 = .ok (.istore 4, 2) := dk_54 4 (dk_at dksX0_bestPlace_6 22 rfl rfl)
theorem dX0_bestPlace_163 : decode cX0_bestPlace 163 = .ok (.iload 10, 2) := dk_21 10 (dk_at dksX0_bestPlace_7 0 rfl rfl)
theorem dX0_bestPlace_165 : decode cX0_bestPlace 165 = .ok (.ifCond .eq 8, 3) := dk_153 0 8 (dk_at dksX0_bestPlace_7 2 rfl rfl)
theorem dX0_bestPlace_168 : decode cX0_bestPlace 168 = .ok (.fload 9, 2) := dk_23 9 (dk_at dksX0_bestPlace_7 5 rfl rfl)
theorem dX0_bestPlace_170 : decode cX0_bestPlace 170 = .ok (.goto 5, 3) := dk_167 0 5 (dk_at dksX0_bestPlace_7 7 rfl rfl)
theorem dX0_bestPlace_173 : decode cX0_bestPlace 173 = .ok (.fload 5, 2) := dk_23 5 (dk_at dksX0_bestPlace_7 10 rfl rfl)
theorem dX0_bestPlace_175 : decode cX0_bestPlace 175 = .ok (.fstore 5, 2) := dk_56 5 (dk_at dksX0_bestPlace_7 12 rfl rfl)
theorem dX0_bestPlace_177 : decode cX0_bestPlace 177 = .ok (.iinc 6 1, 3) := dk_132 6 1 (dk_at dksX0_bestPlace_7 14 rfl rfl)
theorem dX0_bestPlace_180 : decode cX0_bestPlace 180 = .ok (.goto (-137), 3) := dk_167 255 119 (dk_at dksX0_bestPlace_7 17 rfl rfl)
theorem dX0_bestPlace_183 : decode cX0_bestPlace 183 = .ok (.iload 4, 2) := dk_21 4 (dk_at dksX0_bestPlace_7 20 rfl rfl)
theorem dX0_bestPlace_185 : decode cX0_bestPlace 185 = .ok (.ireturn, 1) := dk_172 (dk_at dksX0_bestPlace_7 22 rfl rfl)
abbrev cX0_put : ByteArray := prog_1_method_49_code
def yX0_put : MethodName := ⟨RX0, "put", "(J)I"⟩
def dkwX0_put_5 : List UInt8 := [132, 6, 255, 167, 255, 227, 42, 180, 0, 34, 182, 1, 55, 172]
abbrev dktX0_put_5 : List UInt8 := dkwX0_put_5 ++ []
def dkwX0_put_4 : List UInt8 := [155, 0, 30, 42, 180, 0, 34, 31, 16, 8, 21, 6, 104, 123, 20, 1, 96, 127, 136, 146, 182, 1, 98, 87]
abbrev dktX0_put_4 : List UInt8 := dkwX0_put_4 ++ dktX0_put_5
def dkwX0_put_3 : List UInt8 := [180, 0, 34, 182, 1, 55, 29, 96, 16, 80, 164, 0, 6, 16, 252, 172, 29, 4, 100, 54, 6, 21, 6]
abbrev dktX0_put_3 : List UInt8 := dkwX0_put_3 ++ dktX0_put_4
def dkwX0_put_2 : List UInt8 := [16, 8, 125, 55, 4, 167, 255, 209, 29, 153, 0, 10, 22, 4, 9, 148, 153, 0, 6, 16, 254, 172, 42]
abbrev dktX0_put_2 : List UInt8 := dkwX0_put_2 ++ dktX0_put_3
def dkwX0_put_1 : List UInt8 := [20, 1, 96, 127, 136, 16, 33, 16, 126, 184, 0, 3, 154, 0, 6, 16, 254, 172, 132, 3, 1, 22, 4]
abbrev dktX0_put_1 : List UInt8 := dkwX0_put_1 ++ dktX0_put_2
def dkwX0_put_0 : List UInt8 := [3, 62, 31, 55, 4, 29, 16, 8, 162, 0, 47, 22, 4, 20, 1, 96, 127, 9, 148, 153, 0, 36, 22, 4]
abbrev dktX0_put_0 : List UInt8 := dkwX0_put_0 ++ dktX0_put_1
theorem dksX0_put_0 : cX0_put.data.toList.drop 0 = dktX0_put_0 := by decide +kernel
theorem dksX0_put_1 : cX0_put.data.toList.drop 24 = dktX0_put_1 := dk_seg dksX0_put_0 24 rfl rfl
theorem dksX0_put_2 : cX0_put.data.toList.drop 47 = dktX0_put_2 := dk_seg dksX0_put_1 23 rfl rfl
theorem dksX0_put_3 : cX0_put.data.toList.drop 70 = dktX0_put_3 := dk_seg dksX0_put_2 23 rfl rfl
theorem dksX0_put_4 : cX0_put.data.toList.drop 93 = dktX0_put_4 := dk_seg dksX0_put_3 23 rfl rfl
theorem dksX0_put_5 : cX0_put.data.toList.drop 117 = dktX0_put_5 := dk_seg dksX0_put_4 24 rfl rfl
theorem dX0_put_0 : decode cX0_put 0 = .ok (.iconst 0, 1) := dk_3 (dk_at dksX0_put_0 0 rfl rfl)
theorem dX0_put_1 : decode cX0_put 1 = .ok (.istore_n 3, 1) := dk_62 (dk_at dksX0_put_0 1 rfl rfl)
theorem dX0_put_2 : decode cX0_put 2 = .ok (.lload_n 1, 1) := dk_31 (dk_at dksX0_put_0 2 rfl rfl)
theorem dX0_put_3 : decode cX0_put 3 = .ok (.lstore 4, 2) := dk_55 4 (dk_at dksX0_put_0 3 rfl rfl)
theorem dX0_put_5 : decode cX0_put 5 = .ok (.iload_n 3, 1) := dk_29 (dk_at dksX0_put_0 5 rfl rfl)
theorem dX0_put_6 : decode cX0_put 6 = .ok (.bipush 8, 2) := dk_16 8 (dk_at dksX0_put_0 6 rfl rfl)
theorem dX0_put_8 : decode cX0_put 8 = .ok (.if_icmp .ge 47, 3) := dk_162 0 47 (dk_at dksX0_put_0 8 rfl rfl)
theorem dX0_put_11 : decode cX0_put 11 = .ok (.lload 4, 2) := dk_22 4 (dk_at dksX0_put_0 11 rfl rfl)
theorem dX0_put_13 : decode cX0_put 13 = .ok (.ldc2_w 352, 3) := dk_20 1 96 (dk_at dksX0_put_0 13 rfl rfl)
theorem dX0_put_16 : decode cX0_put 16 = .ok (.land, 1) := dk_127 (dk_at dksX0_put_0 16 rfl rfl)
theorem dX0_put_17 : decode cX0_put 17 = .ok (.lconst 0, 1) := dk_9 (dk_at dksX0_put_0 17 rfl rfl)
theorem dX0_put_18 : decode cX0_put 18 = .ok (.lcmp, 1) := dk_148 (dk_at dksX0_put_0 18 rfl rfl)
theorem dX0_put_19 : decode cX0_put 19 = .ok (.ifCond .eq 36, 3) := dk_153 0 36 (dk_at dksX0_put_0 19 rfl rfl)
theorem dX0_put_22 : decode cX0_put 22 = .ok (.lload 4, 2) := dk_22 4 (dk_at dksX0_put_0 22 rfl rfl)
theorem dX0_put_24 : decode cX0_put 24 = .ok (.ldc2_w 352, 3) := dk_20 1 96 (dk_at dksX0_put_1 0 rfl rfl)
theorem dX0_put_27 : decode cX0_put 27 = .ok (.land, 1) := dk_127 (dk_at dksX0_put_1 3 rfl rfl)
theorem dX0_put_28 : decode cX0_put 28 = .ok (.l2i, 1) := dk_136 (dk_at dksX0_put_1 4 rfl rfl)
theorem dX0_put_29 : decode cX0_put 29 = .ok (.bipush 33, 2) := dk_16 33 (dk_at dksX0_put_1 5 rfl rfl)
theorem dX0_put_31 : decode cX0_put 31 = .ok (.bipush 126, 2) := dk_16 126 (dk_at dksX0_put_1 7 rfl rfl)
theorem dX0_put_33 : decode cX0_put 33 = .ok (.invokestatic 3, 3) := dk_184 0 3 (dk_at dksX0_put_1 9 rfl rfl)
theorem dX0_put_36 : decode cX0_put 36 = .ok (.ifCond .ne 6, 3) := dk_154 0 6 (dk_at dksX0_put_1 12 rfl rfl)
theorem dX0_put_39 : decode cX0_put 39 = .ok (.bipush (-2), 2) := dk_16 254 (dk_at dksX0_put_1 15 rfl rfl)
theorem dX0_put_41 : decode cX0_put 41 = .ok (.ireturn, 1) := dk_172 (dk_at dksX0_put_1 17 rfl rfl)
theorem dX0_put_42 : decode cX0_put 42 = .ok (.iinc 3 1, 3) := dk_132 3 1 (dk_at dksX0_put_1 18 rfl rfl)
theorem dX0_put_45 : decode cX0_put 45 = .ok (.lload 4, 2) := dk_22 4 (dk_at dksX0_put_1 21 rfl rfl)
theorem dX0_put_47 : decode cX0_put 47 = .ok (.bipush 8, 2) := dk_16 8 (dk_at dksX0_put_2 0 rfl rfl)
theorem dX0_put_49 : decode cX0_put 49 = .ok (.lushr, 1) := dk_125 (dk_at dksX0_put_2 2 rfl rfl)
theorem dX0_put_50 : decode cX0_put 50 = .ok (.lstore 4, 2) := dk_55 4 (dk_at dksX0_put_2 3 rfl rfl)
theorem dX0_put_52 : decode cX0_put 52 = .ok (.goto (-47), 3) := dk_167 255 209 (dk_at dksX0_put_2 5 rfl rfl)
theorem dX0_put_55 : decode cX0_put 55 = .ok (.iload_n 3, 1) := dk_29 (dk_at dksX0_put_2 8 rfl rfl)
theorem dX0_put_56 : decode cX0_put 56 = .ok (.ifCond .eq 10, 3) := dk_153 0 10 (dk_at dksX0_put_2 9 rfl rfl)
theorem dX0_put_59 : decode cX0_put 59 = .ok (.lload 4, 2) := dk_22 4 (dk_at dksX0_put_2 12 rfl rfl)
theorem dX0_put_61 : decode cX0_put 61 = .ok (.lconst 0, 1) := dk_9 (dk_at dksX0_put_2 14 rfl rfl)
theorem dX0_put_62 : decode cX0_put 62 = .ok (.lcmp, 1) := dk_148 (dk_at dksX0_put_2 15 rfl rfl)
theorem dX0_put_63 : decode cX0_put 63 = .ok (.ifCond .eq 6, 3) := dk_153 0 6 (dk_at dksX0_put_2 16 rfl rfl)
theorem dX0_put_66 : decode cX0_put 66 = .ok (.bipush (-2), 2) := dk_16 254 (dk_at dksX0_put_2 19 rfl rfl)
theorem dX0_put_68 : decode cX0_put 68 = .ok (.ireturn, 1) := dk_172 (dk_at dksX0_put_2 21 rfl rfl)
theorem dX0_put_69 : decode cX0_put 69 = .ok (.aload_n 0, 1) := dk_42 (dk_at dksX0_put_2 22 rfl rfl)
theorem dX0_put_70 : decode cX0_put 70 = .ok (.getfield 34, 3) := dk_180 0 34 (dk_at dksX0_put_3 0 rfl rfl)
theorem dX0_put_73 : decode cX0_put 73 = .ok (.invokevirtual 311, 3) := dk_182 1 55 (dk_at dksX0_put_3 3 rfl rfl)
theorem dX0_put_76 : decode cX0_put 76 = .ok (.iload_n 3, 1) := dk_29 (dk_at dksX0_put_3 6 rfl rfl)
theorem dX0_put_77 : decode cX0_put 77 = .ok (.iadd, 1) := dk_96 (dk_at dksX0_put_3 7 rfl rfl)
theorem dX0_put_78 : decode cX0_put 78 = .ok (.bipush 80, 2) := dk_16 80 (dk_at dksX0_put_3 8 rfl rfl)
theorem dX0_put_80 : decode cX0_put 80 = .ok (.if_icmp .le 6, 3) := dk_164 0 6 (dk_at dksX0_put_3 10 rfl rfl)
theorem dX0_put_83 : decode cX0_put 83 = .ok (.bipush (-4), 2) := dk_16 252 (dk_at dksX0_put_3 13 rfl rfl)
theorem dX0_put_85 : decode cX0_put 85 = .ok (.ireturn, 1) := dk_172 (dk_at dksX0_put_3 15 rfl rfl)
theorem dX0_put_86 : decode cX0_put 86 = .ok (.iload_n 3, 1) := dk_29 (dk_at dksX0_put_3 16 rfl rfl)
theorem dX0_put_87 : decode cX0_put 87 = .ok (.iconst 1, 1) := dk_4 (dk_at dksX0_put_3 17 rfl rfl)
theorem dX0_put_88 : decode cX0_put 88 = .ok (.isub, 1) := dk_100 (dk_at dksX0_put_3 18 rfl rfl)
theorem dX0_put_89 : decode cX0_put 89 = .ok (.istore 6, 2) := dk_54 6 (dk_at dksX0_put_3 19 rfl rfl)
theorem dX0_put_91 : decode cX0_put 91 = .ok (.iload 6, 2) := dk_21 6 (dk_at dksX0_put_3 21 rfl rfl)
theorem dX0_put_93 : decode cX0_put 93 = .ok (.ifCond .lt 30, 3) := dk_155 0 30 (dk_at dksX0_put_4 0 rfl rfl)
theorem dX0_put_96 : decode cX0_put 96 = .ok (.aload_n 0, 1) := dk_42 (dk_at dksX0_put_4 3 rfl rfl)
theorem dX0_put_97 : decode cX0_put 97 = .ok (.getfield 34, 3) := dk_180 0 34 (dk_at dksX0_put_4 4 rfl rfl)
theorem dX0_put_100 : decode cX0_put 100 = .ok (.lload_n 1, 1) := dk_31 (dk_at dksX0_put_4 7 rfl rfl)
theorem dX0_put_101 : decode cX0_put 101 = .ok (.bipush 8, 2) := dk_16 8 (dk_at dksX0_put_4 8 rfl rfl)
theorem dX0_put_103 : decode cX0_put 103 = .ok (.iload 6, 2) := dk_21 6 (dk_at dksX0_put_4 10 rfl rfl)
theorem dX0_put_105 : decode cX0_put 105 = .ok (.imul, 1) := dk_104 (dk_at dksX0_put_4 12 rfl rfl)
theorem dX0_put_106 : decode cX0_put 106 = .ok (.lshr, 1) := dk_123 (dk_at dksX0_put_4 13 rfl rfl)
theorem dX0_put_107 : decode cX0_put 107 = .ok (.ldc2_w 352, 3) := dk_20 1 96 (dk_at dksX0_put_4 14 rfl rfl)
theorem dX0_put_110 : decode cX0_put 110 = .ok (.land, 1) := dk_127 (dk_at dksX0_put_4 17 rfl rfl)
theorem dX0_put_111 : decode cX0_put 111 = .ok (.l2i, 1) := dk_136 (dk_at dksX0_put_4 18 rfl rfl)
theorem dX0_put_112 : decode cX0_put 112 = .ok (.i2c, 1) := dk_146 (dk_at dksX0_put_4 19 rfl rfl)
theorem dX0_put_113 : decode cX0_put 113 = .ok (.invokevirtual 354, 3) := dk_182 1 98 (dk_at dksX0_put_4 20 rfl rfl)
theorem dX0_put_116 : decode cX0_put 116 = .ok (.pop, 1) := dk_87 (dk_at dksX0_put_4 23 rfl rfl)
theorem dX0_put_117 : decode cX0_put 117 = .ok (.iinc 6 (-1), 3) := dk_132 6 255 (dk_at dksX0_put_5 0 rfl rfl)
theorem dX0_put_120 : decode cX0_put 120 = .ok (.goto (-29), 3) := dk_167 255 227 (dk_at dksX0_put_5 3 rfl rfl)
theorem dX0_put_123 : decode cX0_put 123 = .ok (.aload_n 0, 1) := dk_42 (dk_at dksX0_put_5 6 rfl rfl)
theorem dX0_put_124 : decode cX0_put 124 = .ok (.getfield 34, 3) := dk_180 0 34 (dk_at dksX0_put_5 7 rfl rfl)
theorem dX0_put_127 : decode cX0_put 127 = .ok (.invokevirtual 311, 3) := dk_182 1 55 (dk_at dksX0_put_5 10 rfl rfl)
theorem dX0_put_130 : decode cX0_put 130 = .ok (.ireturn, 1) := dk_172 (dk_at dksX0_put_5 13 rfl rfl)
abbrev cX0_wipe : ByteArray := prog_1_method_50_code
def yX0_wipe : MethodName := ⟨RX0, "wipe", "()I"⟩
def dkwX0_wipe_0 : List UInt8 := [42, 180, 0, 34, 182, 1, 55, 60, 42, 180, 0, 34, 3, 182, 1, 102, 27, 172]
abbrev dktX0_wipe_0 : List UInt8 := dkwX0_wipe_0 ++ []
theorem dksX0_wipe_0 : cX0_wipe.data.toList.drop 0 = dktX0_wipe_0 := by decide +kernel
theorem dX0_wipe_0 : decode cX0_wipe 0 = .ok (.aload_n 0, 1) := dk_42 (dk_at dksX0_wipe_0 0 rfl rfl)
theorem dX0_wipe_1 : decode cX0_wipe 1 = .ok (.getfield 34, 3) := dk_180 0 34 (dk_at dksX0_wipe_0 1 rfl rfl)
theorem dX0_wipe_4 : decode cX0_wipe 4 = .ok (.invokevirtual 311, 3) := dk_182 1 55 (dk_at dksX0_wipe_0 4 rfl rfl)
theorem dX0_wipe_7 : decode cX0_wipe 7 = .ok (.istore_n 1, 1) := dk_60 (dk_at dksX0_wipe_0 7 rfl rfl)
theorem dX0_wipe_8 : decode cX0_wipe 8 = .ok (.aload_n 0, 1) := dk_42 (dk_at dksX0_wipe_0 8 rfl rfl)
theorem dX0_wipe_9 : decode cX0_wipe 9 = .ok (.getfield 34, 3) := dk_180 0 34 (dk_at dksX0_wipe_0 9 rfl rfl)
theorem dX0_wipe_12 : decode cX0_wipe 12 = .ok (.iconst 0, 1) := dk_3 (dk_at dksX0_wipe_0 12 rfl rfl)
theorem dX0_wipe_13 : decode cX0_wipe 13 = .ok (.invokevirtual 358, 3) := dk_182 1 102 (dk_at dksX0_wipe_0 13 rfl rfl)
theorem dX0_wipe_16 : decode cX0_wipe 16 = .ok (.iload_n 1, 1) := dk_27 (dk_at dksX0_wipe_0 16 rfl rfl)
theorem dX0_wipe_17 : decode cX0_wipe 17 = .ok (.ireturn, 1) := dk_172 (dk_at dksX0_wipe_0 17 rfl rfl)
abbrev cX0_fault : ByteArray := prog_1_method_51_code
def yX0_fault : MethodName := ⟨RX0, "fault", "()I"⟩
def dkwX0_fault_1 : List UInt8 := [16, 250, 172]
abbrev dktX0_fault_1 : List UInt8 := dkwX0_fault_1 ++ []
def dkwX0_fault_0 : List UInt8 := [187, 1, 106, 89, 42, 183, 1, 108, 76, 43, 180, 1, 111, 153, 0, 10, 43, 180, 1, 114, 167, 0, 5]
abbrev dktX0_fault_0 : List UInt8 := dkwX0_fault_0 ++ dktX0_fault_1
theorem dksX0_fault_0 : cX0_fault.data.toList.drop 0 = dktX0_fault_0 := by decide +kernel
theorem dksX0_fault_1 : cX0_fault.data.toList.drop 23 = dktX0_fault_1 := dk_seg dksX0_fault_0 23 rfl rfl
theorem dX0_fault_0 : decode cX0_fault 0 = .ok (.new 362, 3) := dk_187 1 106 (dk_at dksX0_fault_0 0 rfl rfl)
theorem dX0_fault_3 : decode cX0_fault 3 = .ok (.dup, 1) := dk_89 (dk_at dksX0_fault_0 3 rfl rfl)
theorem dX0_fault_4 : decode cX0_fault 4 = .ok (.aload_n 0, 1) := dk_42 (dk_at dksX0_fault_0 4 rfl rfl)
theorem dX0_fault_5 : decode cX0_fault 5 = .ok (.invokespecial 364, 3) := dk_183 1 108 (dk_at dksX0_fault_0 5 rfl rfl)
theorem dX0_fault_8 : decode cX0_fault 8 = .ok (.astore_n 1, 1) := dk_76 (dk_at dksX0_fault_0 8 rfl rfl)
theorem dX0_fault_9 : decode cX0_fault 9 = .ok (.aload_n 1, 1) := dk_43 (dk_at dksX0_fault_0 9 rfl rfl)
theorem dX0_fault_10 : decode cX0_fault 10 = .ok (.getfield 367, 3) := dk_180 1 111 (dk_at dksX0_fault_0 10 rfl rfl)
theorem dX0_fault_13 : decode cX0_fault 13 = .ok (.ifCond .eq 10, 3) := dk_153 0 10 (dk_at dksX0_fault_0 13 rfl rfl)
theorem dX0_fault_16 : decode cX0_fault 16 = .ok (.aload_n 1, 1) := dk_43 (dk_at dksX0_fault_0 16 rfl rfl)
theorem dX0_fault_17 : decode cX0_fault 17 = .ok (.getfield 370, 3) := dk_180 1 114 (dk_at dksX0_fault_0 17 rfl rfl)
theorem dX0_fault_20 : decode cX0_fault 20 = .ok (.goto 5, 3) := dk_167 0 5 (dk_at dksX0_fault_0 20 rfl rfl)
theorem dX0_fault_23 : decode cX0_fault 23 = .ok (.bipush (-6), 2) := dk_16 250 (dk_at dksX0_fault_1 0 rfl rfl)
theorem dX0_fault_25 : decode cX0_fault 25 = .ok (.ireturn, 1) := dk_172 (dk_at dksX0_fault_1 2 rfl rfl)
abbrev cX0_carryOut : ByteArray := prog_1_method_53_code
def yX0_carryOut : MethodName := ⟨RX0, "carryOut", "()I"⟩
def dkwX0_carryOut_3 : List UInt8 := [28, 172]
abbrev dktX0_carryOut_3 : List UInt8 := dkwX0_carryOut_3 ++ []
def dkwX0_carryOut_2 : List UInt8 := [180, 1, 117, 28, 185, 0, 62, 2, 0, 192, 1, 118, 182, 1, 119, 155, 0, 9, 132, 2, 1, 167, 255, 220]
abbrev dktX0_carryOut_2 : List UInt8 := dkwX0_carryOut_2 ++ dktX0_carryOut_3
def dkwX0_carryOut_1 : List UInt8 := [180, 0, 34, 3, 182, 1, 102, 3, 61, 28, 43, 180, 1, 117, 185, 0, 38, 1, 0, 162, 0, 29, 42, 43]
abbrev dktX0_carryOut_1 : List UInt8 := dkwX0_carryOut_1 ++ dktX0_carryOut_2
def dkwX0_carryOut_0 : List UInt8 := [187, 1, 106, 89, 42, 183, 1, 108, 76, 43, 180, 1, 111, 153, 0, 6, 16, 253, 172, 42, 182, 0, 69, 42]
abbrev dktX0_carryOut_0 : List UInt8 := dkwX0_carryOut_0 ++ dktX0_carryOut_1
theorem dksX0_carryOut_0 : cX0_carryOut.data.toList.drop 0 = dktX0_carryOut_0 := by decide +kernel
theorem dksX0_carryOut_1 : cX0_carryOut.data.toList.drop 24 = dktX0_carryOut_1 := dk_seg dksX0_carryOut_0 24 rfl rfl
theorem dksX0_carryOut_2 : cX0_carryOut.data.toList.drop 48 = dktX0_carryOut_2 := dk_seg dksX0_carryOut_1 24 rfl rfl
theorem dksX0_carryOut_3 : cX0_carryOut.data.toList.drop 72 = dktX0_carryOut_3 := dk_seg dksX0_carryOut_2 24 rfl rfl
theorem dX0_carryOut_0 : decode cX0_carryOut 0 = .ok (.new 362, 3) := dk_187 1 106 (dk_at dksX0_carryOut_0 0 rfl rfl)
theorem dX0_carryOut_3 : decode cX0_carryOut 3 = .ok (.dup, 1) := dk_89 (dk_at dksX0_carryOut_0 3 rfl rfl)
theorem dX0_carryOut_4 : decode cX0_carryOut 4 = .ok (.aload_n 0, 1) := dk_42 (dk_at dksX0_carryOut_0 4 rfl rfl)
theorem dX0_carryOut_5 : decode cX0_carryOut 5 = .ok (.invokespecial 364, 3) := dk_183 1 108 (dk_at dksX0_carryOut_0 5 rfl rfl)
theorem dX0_carryOut_8 : decode cX0_carryOut 8 = .ok (.astore_n 1, 1) := dk_76 (dk_at dksX0_carryOut_0 8 rfl rfl)
theorem dX0_carryOut_9 : decode cX0_carryOut 9 = .ok (.aload_n 1, 1) := dk_43 (dk_at dksX0_carryOut_0 9 rfl rfl)
theorem dX0_carryOut_10 : decode cX0_carryOut 10 = .ok (.getfield 367, 3) := dk_180 1 111 (dk_at dksX0_carryOut_0 10 rfl rfl)
theorem dX0_carryOut_13 : decode cX0_carryOut 13 = .ok (.ifCond .eq 6, 3) := dk_153 0 6 (dk_at dksX0_carryOut_0 13 rfl rfl)
theorem dX0_carryOut_16 : decode cX0_carryOut 16 = .ok (.bipush (-3), 2) := dk_16 253 (dk_at dksX0_carryOut_0 16 rfl rfl)
theorem dX0_carryOut_18 : decode cX0_carryOut 18 = .ok (.ireturn, 1) := dk_172 (dk_at dksX0_carryOut_0 18 rfl rfl)
theorem dX0_carryOut_19 : decode cX0_carryOut 19 = .ok (.aload_n 0, 1) := dk_42 (dk_at dksX0_carryOut_0 19 rfl rfl)
theorem dX0_carryOut_20 : decode cX0_carryOut 20 = .ok (.invokevirtual 69, 3) := dk_182 0 69 (dk_at dksX0_carryOut_0 20 rfl rfl)
theorem dX0_carryOut_23 : decode cX0_carryOut 23 = .ok (.aload_n 0, 1) := dk_42 (dk_at dksX0_carryOut_0 23 rfl rfl)
theorem dX0_carryOut_24 : decode cX0_carryOut 24 = .ok (.getfield 34, 3) := dk_180 0 34 (dk_at dksX0_carryOut_1 0 rfl rfl)
theorem dX0_carryOut_27 : decode cX0_carryOut 27 = .ok (.iconst 0, 1) := dk_3 (dk_at dksX0_carryOut_1 3 rfl rfl)
theorem dX0_carryOut_28 : decode cX0_carryOut 28 = .ok (.invokevirtual 358, 3) := dk_182 1 102 (dk_at dksX0_carryOut_1 4 rfl rfl)
theorem dX0_carryOut_31 : decode cX0_carryOut 31 = .ok (.iconst 0, 1) := dk_3 (dk_at dksX0_carryOut_1 7 rfl rfl)
theorem dX0_carryOut_32 : decode cX0_carryOut 32 = .ok (.istore_n 2, 1) := dk_61 (dk_at dksX0_carryOut_1 8 rfl rfl)
theorem dX0_carryOut_33 : decode cX0_carryOut 33 = .ok (.iload_n 2, 1) := dk_28 (dk_at dksX0_carryOut_1 9 rfl rfl)
theorem dX0_carryOut_34 : decode cX0_carryOut 34 = .ok (.aload_n 1, 1) := dk_43 (dk_at dksX0_carryOut_1 10 rfl rfl)
theorem dX0_carryOut_35 : decode cX0_carryOut 35 = .ok (.getfield 373, 3) := dk_180 1 117 (dk_at dksX0_carryOut_1 11 rfl rfl)
theorem dX0_carryOut_38 : decode cX0_carryOut 38 = .ok (.invokeinterface 38 1, 5) := by decide +kernel
theorem dX0_carryOut_43 : decode cX0_carryOut 43 = .ok (.if_icmp .ge 29, 3) := dk_162 0 29 (dk_at dksX0_carryOut_1 19 rfl rfl)
theorem dX0_carryOut_46 : decode cX0_carryOut 46 = .ok (.aload_n 0, 1) := dk_42 (dk_at dksX0_carryOut_1 22 rfl rfl)
theorem dX0_carryOut_47 : decode cX0_carryOut 47 = .ok (.aload_n 1, 1) := dk_43 (dk_at dksX0_carryOut_1 23 rfl rfl)
theorem dX0_carryOut_48 : decode cX0_carryOut 48 = .ok (.getfield 373, 3) := dk_180 1 117 (dk_at dksX0_carryOut_2 0 rfl rfl)
theorem dX0_carryOut_51 : decode cX0_carryOut 51 = .ok (.iload_n 2, 1) := dk_28 (dk_at dksX0_carryOut_2 3 rfl rfl)
theorem dX0_carryOut_52 : decode cX0_carryOut 52 = .ok (.invokeinterface 62 2, 5) := by decide +kernel
theorem dX0_carryOut_57 : decode cX0_carryOut 57 = .ok (.checkcast 374, 3) := dk_192 1 118 (dk_at dksX0_carryOut_2 9 rfl rfl)
theorem dX0_carryOut_60 : decode cX0_carryOut 60 = .ok (.invokevirtual 375, 3) := dk_182 1 119 (dk_at dksX0_carryOut_2 12 rfl rfl)
theorem dX0_carryOut_63 : decode cX0_carryOut 63 = .ok (.ifCond .lt 9, 3) := dk_155 0 9 (dk_at dksX0_carryOut_2 15 rfl rfl)
theorem dX0_carryOut_66 : decode cX0_carryOut 66 = .ok (.iinc 2 1, 3) := dk_132 2 1 (dk_at dksX0_carryOut_2 18 rfl rfl)
theorem dX0_carryOut_69 : decode cX0_carryOut 69 = .ok (.goto (-36), 3) := dk_167 255 220 (dk_at dksX0_carryOut_2 21 rfl rfl)
theorem dX0_carryOut_72 : decode cX0_carryOut 72 = .ok (.iload_n 2, 1) := dk_28 (dk_at dksX0_carryOut_3 0 rfl rfl)
theorem dX0_carryOut_73 : decode cX0_carryOut 73 = .ok (.ireturn, 1) := dk_172 (dk_at dksX0_carryOut_3 1 rfl rfl)
abbrev cX0_doIt : ByteArray := prog_1_method_52_code
def yX0_doIt : MethodName := ⟨RX0, "doIt", "([I)I"⟩
def dkwX0_doIt_6 : List UInt8 := [182, 0, 223, 172, 42, 43, 4, 46, 3, 182, 0, 241, 172, 42, 43, 4, 46, 3, 182, 0, 232, 172]
abbrev dktX0_doIt_6 : List UInt8 := dkwX0_doIt_6 ++ []
def dkwX0_doIt_5 : List UInt8 := [42, 43, 4, 46, 43, 5, 46, 3, 182, 0, 198, 172, 42, 43, 4, 46, 43, 5, 46, 43, 6, 46, 3]
abbrev dktX0_doIt_5 : List UInt8 := dkwX0_doIt_5 ++ dktX0_doIt_6
def dkwX0_doIt_4 : List UInt8 := [188, 10, 89, 3, 43, 4, 46, 79, 89, 4, 43, 5, 46, 79, 89, 5, 43, 6, 46, 79, 182, 0, 188, 172]
abbrev dktX0_doIt_4 : List UInt8 := dkwX0_doIt_4 ++ dktX0_doIt_5
def dkwX0_doIt_3 : List UInt8 := [46, 79, 182, 0, 161, 172, 42, 43, 4, 46, 43, 5, 46, 43, 6, 46, 3, 182, 0, 173, 172, 42, 3, 6]
abbrev dktX0_doIt_3 : List UInt8 := dkwX0_doIt_3 ++ dktX0_doIt_4
def dkwX0_doIt_2 : List UInt8 := [42, 3, 43, 7, 46, 6, 188, 10, 89, 3, 43, 4, 46, 79, 89, 4, 43, 5, 46, 79, 89, 5, 43, 6]
abbrev dktX0_doIt_2 : List UInt8 := dkwX0_doIt_2 ++ dktX0_doIt_3
def dkwX0_doIt_1 : List UInt8 := [170, 0, 0, 0, 181, 0, 0, 0, 99, 0, 0, 0, 113, 0, 0, 0, 103, 0, 0, 0, 181, 0, 0, 0, 181, 0, 0, 0, 181, 0, 0, 0, 145, 0, 0, 0, 181, 0, 0, 0, 181, 0, 0, 0, 181, 0, 0, 0, 181, 0, 0, 0, 157, 0, 0, 0, 181, 0, 0, 0, 172, 0, 0, 0, 118, 0, 0, 0, 181, 0, 0, 0, 73]
abbrev dktX0_doIt_1 : List UInt8 := dkwX0_doIt_1 ++ dktX0_doIt_2
def dkwX0_doIt_0 : List UInt8 := [43, 3, 46]
abbrev dktX0_doIt_0 : List UInt8 := dkwX0_doIt_0 ++ dktX0_doIt_1
theorem dksX0_doIt_0 : cX0_doIt.data.toList.drop 0 = dktX0_doIt_0 := by decide +kernel
theorem dksX0_doIt_1 : cX0_doIt.data.toList.drop 3 = dktX0_doIt_1 := dk_seg dksX0_doIt_0 3 rfl rfl
theorem dksX0_doIt_2 : cX0_doIt.data.toList.drop 76 = dktX0_doIt_2 := dk_seg dksX0_doIt_1 73 rfl rfl
theorem dksX0_doIt_3 : cX0_doIt.data.toList.drop 100 = dktX0_doIt_3 := dk_seg dksX0_doIt_2 24 rfl rfl
theorem dksX0_doIt_4 : cX0_doIt.data.toList.drop 124 = dktX0_doIt_4 := dk_seg dksX0_doIt_3 24 rfl rfl
theorem dksX0_doIt_5 : cX0_doIt.data.toList.drop 148 = dktX0_doIt_5 := dk_seg dksX0_doIt_4 24 rfl rfl
theorem dksX0_doIt_6 : cX0_doIt.data.toList.drop 171 = dktX0_doIt_6 := dk_seg dksX0_doIt_5 23 rfl rfl
theorem dX0_doIt_0 : decode cX0_doIt 0 = .ok (.aload_n 1, 1) := dk_43 (dk_at dksX0_doIt_0 0 rfl rfl)
theorem dX0_doIt_1 : decode cX0_doIt 1 = .ok (.iconst 0, 1) := dk_3 (dk_at dksX0_doIt_0 1 rfl rfl)
theorem dX0_doIt_2 : decode cX0_doIt 2 = .ok (.iaload, 1) := dk_46 (dk_at dksX0_doIt_0 2 rfl rfl)
theorem dX0_doIt_3 : decode cX0_doIt 3 = .ok (.tableswitch 181 99 113 #[103, 181, 181, 181, 145, 181, 181, 181, 181, 157, 181, 172, 118, 181, 73], 73) := by decide +kernel
theorem dX0_doIt_76 : decode cX0_doIt 76 = .ok (.aload_n 0, 1) := dk_42 (dk_at dksX0_doIt_2 0 rfl rfl)
theorem dX0_doIt_77 : decode cX0_doIt 77 = .ok (.iconst 0, 1) := dk_3 (dk_at dksX0_doIt_2 1 rfl rfl)
theorem dX0_doIt_78 : decode cX0_doIt 78 = .ok (.aload_n 1, 1) := dk_43 (dk_at dksX0_doIt_2 2 rfl rfl)
theorem dX0_doIt_79 : decode cX0_doIt 79 = .ok (.iconst 4, 1) := dk_7 (dk_at dksX0_doIt_2 3 rfl rfl)
theorem dX0_doIt_80 : decode cX0_doIt 80 = .ok (.iaload, 1) := dk_46 (dk_at dksX0_doIt_2 4 rfl rfl)
theorem dX0_doIt_81 : decode cX0_doIt 81 = .ok (.iconst 3, 1) := dk_6 (dk_at dksX0_doIt_2 5 rfl rfl)
theorem dX0_doIt_82 : decode cX0_doIt 82 = .ok (.newarray .int, 2) := dk_188_10 (dk_at dksX0_doIt_2 6 rfl rfl)
theorem dX0_doIt_84 : decode cX0_doIt 84 = .ok (.dup, 1) := dk_89 (dk_at dksX0_doIt_2 8 rfl rfl)
theorem dX0_doIt_85 : decode cX0_doIt 85 = .ok (.iconst 0, 1) := dk_3 (dk_at dksX0_doIt_2 9 rfl rfl)
theorem dX0_doIt_86 : decode cX0_doIt 86 = .ok (.aload_n 1, 1) := dk_43 (dk_at dksX0_doIt_2 10 rfl rfl)
theorem dX0_doIt_87 : decode cX0_doIt 87 = .ok (.iconst 1, 1) := dk_4 (dk_at dksX0_doIt_2 11 rfl rfl)
theorem dX0_doIt_88 : decode cX0_doIt 88 = .ok (.iaload, 1) := dk_46 (dk_at dksX0_doIt_2 12 rfl rfl)
theorem dX0_doIt_89 : decode cX0_doIt 89 = .ok (.iastore, 1) := dk_79 (dk_at dksX0_doIt_2 13 rfl rfl)
theorem dX0_doIt_90 : decode cX0_doIt 90 = .ok (.dup, 1) := dk_89 (dk_at dksX0_doIt_2 14 rfl rfl)
theorem dX0_doIt_91 : decode cX0_doIt 91 = .ok (.iconst 1, 1) := dk_4 (dk_at dksX0_doIt_2 15 rfl rfl)
theorem dX0_doIt_92 : decode cX0_doIt 92 = .ok (.aload_n 1, 1) := dk_43 (dk_at dksX0_doIt_2 16 rfl rfl)
theorem dX0_doIt_93 : decode cX0_doIt 93 = .ok (.iconst 2, 1) := dk_5 (dk_at dksX0_doIt_2 17 rfl rfl)
theorem dX0_doIt_94 : decode cX0_doIt 94 = .ok (.iaload, 1) := dk_46 (dk_at dksX0_doIt_2 18 rfl rfl)
theorem dX0_doIt_95 : decode cX0_doIt 95 = .ok (.iastore, 1) := dk_79 (dk_at dksX0_doIt_2 19 rfl rfl)
theorem dX0_doIt_96 : decode cX0_doIt 96 = .ok (.dup, 1) := dk_89 (dk_at dksX0_doIt_2 20 rfl rfl)
theorem dX0_doIt_97 : decode cX0_doIt 97 = .ok (.iconst 2, 1) := dk_5 (dk_at dksX0_doIt_2 21 rfl rfl)
theorem dX0_doIt_98 : decode cX0_doIt 98 = .ok (.aload_n 1, 1) := dk_43 (dk_at dksX0_doIt_2 22 rfl rfl)
theorem dX0_doIt_99 : decode cX0_doIt 99 = .ok (.iconst 3, 1) := dk_6 (dk_at dksX0_doIt_2 23 rfl rfl)
theorem dX0_doIt_100 : decode cX0_doIt 100 = .ok (.iaload, 1) := dk_46 (dk_at dksX0_doIt_3 0 rfl rfl)
theorem dX0_doIt_101 : decode cX0_doIt 101 = .ok (.iastore, 1) := dk_79 (dk_at dksX0_doIt_3 1 rfl rfl)
theorem dX0_doIt_102 : decode cX0_doIt 102 = .ok (.invokevirtual 161, 3) := dk_182 0 161 (dk_at dksX0_doIt_3 2 rfl rfl)
theorem dX0_doIt_105 : decode cX0_doIt 105 = .ok (.ireturn, 1) := dk_172 (dk_at dksX0_doIt_3 5 rfl rfl)
theorem dX0_doIt_106 : decode cX0_doIt 106 = .ok (.aload_n 0, 1) := dk_42 (dk_at dksX0_doIt_3 6 rfl rfl)
theorem dX0_doIt_107 : decode cX0_doIt 107 = .ok (.aload_n 1, 1) := dk_43 (dk_at dksX0_doIt_3 7 rfl rfl)
theorem dX0_doIt_108 : decode cX0_doIt 108 = .ok (.iconst 1, 1) := dk_4 (dk_at dksX0_doIt_3 8 rfl rfl)
theorem dX0_doIt_109 : decode cX0_doIt 109 = .ok (.iaload, 1) := dk_46 (dk_at dksX0_doIt_3 9 rfl rfl)
theorem dX0_doIt_110 : decode cX0_doIt 110 = .ok (.aload_n 1, 1) := dk_43 (dk_at dksX0_doIt_3 10 rfl rfl)
theorem dX0_doIt_111 : decode cX0_doIt 111 = .ok (.iconst 2, 1) := dk_5 (dk_at dksX0_doIt_3 11 rfl rfl)
theorem dX0_doIt_112 : decode cX0_doIt 112 = .ok (.iaload, 1) := dk_46 (dk_at dksX0_doIt_3 12 rfl rfl)
theorem dX0_doIt_113 : decode cX0_doIt 113 = .ok (.aload_n 1, 1) := dk_43 (dk_at dksX0_doIt_3 13 rfl rfl)
theorem dX0_doIt_114 : decode cX0_doIt 114 = .ok (.iconst 3, 1) := dk_6 (dk_at dksX0_doIt_3 14 rfl rfl)
theorem dX0_doIt_115 : decode cX0_doIt 115 = .ok (.iaload, 1) := dk_46 (dk_at dksX0_doIt_3 15 rfl rfl)
theorem dX0_doIt_116 : decode cX0_doIt 116 = .ok (.iconst 0, 1) := dk_3 (dk_at dksX0_doIt_3 16 rfl rfl)
theorem dX0_doIt_117 : decode cX0_doIt 117 = .ok (.invokevirtual 173, 3) := dk_182 0 173 (dk_at dksX0_doIt_3 17 rfl rfl)
theorem dX0_doIt_120 : decode cX0_doIt 120 = .ok (.ireturn, 1) := dk_172 (dk_at dksX0_doIt_3 20 rfl rfl)
theorem dX0_doIt_121 : decode cX0_doIt 121 = .ok (.aload_n 0, 1) := dk_42 (dk_at dksX0_doIt_3 21 rfl rfl)
theorem dX0_doIt_122 : decode cX0_doIt 122 = .ok (.iconst 0, 1) := dk_3 (dk_at dksX0_doIt_3 22 rfl rfl)
theorem dX0_doIt_123 : decode cX0_doIt 123 = .ok (.iconst 3, 1) := dk_6 (dk_at dksX0_doIt_3 23 rfl rfl)
theorem dX0_doIt_124 : decode cX0_doIt 124 = .ok (.newarray .int, 2) := dk_188_10 (dk_at dksX0_doIt_4 0 rfl rfl)
theorem dX0_doIt_126 : decode cX0_doIt 126 = .ok (.dup, 1) := dk_89 (dk_at dksX0_doIt_4 2 rfl rfl)
theorem dX0_doIt_127 : decode cX0_doIt 127 = .ok (.iconst 0, 1) := dk_3 (dk_at dksX0_doIt_4 3 rfl rfl)
theorem dX0_doIt_128 : decode cX0_doIt 128 = .ok (.aload_n 1, 1) := dk_43 (dk_at dksX0_doIt_4 4 rfl rfl)
theorem dX0_doIt_129 : decode cX0_doIt 129 = .ok (.iconst 1, 1) := dk_4 (dk_at dksX0_doIt_4 5 rfl rfl)
theorem dX0_doIt_130 : decode cX0_doIt 130 = .ok (.iaload, 1) := dk_46 (dk_at dksX0_doIt_4 6 rfl rfl)
theorem dX0_doIt_131 : decode cX0_doIt 131 = .ok (.iastore, 1) := dk_79 (dk_at dksX0_doIt_4 7 rfl rfl)
theorem dX0_doIt_132 : decode cX0_doIt 132 = .ok (.dup, 1) := dk_89 (dk_at dksX0_doIt_4 8 rfl rfl)
theorem dX0_doIt_133 : decode cX0_doIt 133 = .ok (.iconst 1, 1) := dk_4 (dk_at dksX0_doIt_4 9 rfl rfl)
theorem dX0_doIt_134 : decode cX0_doIt 134 = .ok (.aload_n 1, 1) := dk_43 (dk_at dksX0_doIt_4 10 rfl rfl)
theorem dX0_doIt_135 : decode cX0_doIt 135 = .ok (.iconst 2, 1) := dk_5 (dk_at dksX0_doIt_4 11 rfl rfl)
theorem dX0_doIt_136 : decode cX0_doIt 136 = .ok (.iaload, 1) := dk_46 (dk_at dksX0_doIt_4 12 rfl rfl)
theorem dX0_doIt_137 : decode cX0_doIt 137 = .ok (.iastore, 1) := dk_79 (dk_at dksX0_doIt_4 13 rfl rfl)
theorem dX0_doIt_138 : decode cX0_doIt 138 = .ok (.dup, 1) := dk_89 (dk_at dksX0_doIt_4 14 rfl rfl)
theorem dX0_doIt_139 : decode cX0_doIt 139 = .ok (.iconst 2, 1) := dk_5 (dk_at dksX0_doIt_4 15 rfl rfl)
theorem dX0_doIt_140 : decode cX0_doIt 140 = .ok (.aload_n 1, 1) := dk_43 (dk_at dksX0_doIt_4 16 rfl rfl)
theorem dX0_doIt_141 : decode cX0_doIt 141 = .ok (.iconst 3, 1) := dk_6 (dk_at dksX0_doIt_4 17 rfl rfl)
theorem dX0_doIt_142 : decode cX0_doIt 142 = .ok (.iaload, 1) := dk_46 (dk_at dksX0_doIt_4 18 rfl rfl)
theorem dX0_doIt_143 : decode cX0_doIt 143 = .ok (.iastore, 1) := dk_79 (dk_at dksX0_doIt_4 19 rfl rfl)
theorem dX0_doIt_144 : decode cX0_doIt 144 = .ok (.invokevirtual 188, 3) := dk_182 0 188 (dk_at dksX0_doIt_4 20 rfl rfl)
theorem dX0_doIt_147 : decode cX0_doIt 147 = .ok (.ireturn, 1) := dk_172 (dk_at dksX0_doIt_4 23 rfl rfl)
theorem dX0_doIt_148 : decode cX0_doIt 148 = .ok (.aload_n 0, 1) := dk_42 (dk_at dksX0_doIt_5 0 rfl rfl)
theorem dX0_doIt_149 : decode cX0_doIt 149 = .ok (.aload_n 1, 1) := dk_43 (dk_at dksX0_doIt_5 1 rfl rfl)
theorem dX0_doIt_150 : decode cX0_doIt 150 = .ok (.iconst 1, 1) := dk_4 (dk_at dksX0_doIt_5 2 rfl rfl)
theorem dX0_doIt_151 : decode cX0_doIt 151 = .ok (.iaload, 1) := dk_46 (dk_at dksX0_doIt_5 3 rfl rfl)
theorem dX0_doIt_152 : decode cX0_doIt 152 = .ok (.aload_n 1, 1) := dk_43 (dk_at dksX0_doIt_5 4 rfl rfl)
theorem dX0_doIt_153 : decode cX0_doIt 153 = .ok (.iconst 2, 1) := dk_5 (dk_at dksX0_doIt_5 5 rfl rfl)
theorem dX0_doIt_154 : decode cX0_doIt 154 = .ok (.iaload, 1) := dk_46 (dk_at dksX0_doIt_5 6 rfl rfl)
theorem dX0_doIt_155 : decode cX0_doIt 155 = .ok (.iconst 0, 1) := dk_3 (dk_at dksX0_doIt_5 7 rfl rfl)
theorem dX0_doIt_156 : decode cX0_doIt 156 = .ok (.invokevirtual 198, 3) := dk_182 0 198 (dk_at dksX0_doIt_5 8 rfl rfl)
theorem dX0_doIt_159 : decode cX0_doIt 159 = .ok (.ireturn, 1) := dk_172 (dk_at dksX0_doIt_5 11 rfl rfl)
theorem dX0_doIt_160 : decode cX0_doIt 160 = .ok (.aload_n 0, 1) := dk_42 (dk_at dksX0_doIt_5 12 rfl rfl)
theorem dX0_doIt_161 : decode cX0_doIt 161 = .ok (.aload_n 1, 1) := dk_43 (dk_at dksX0_doIt_5 13 rfl rfl)
theorem dX0_doIt_162 : decode cX0_doIt 162 = .ok (.iconst 1, 1) := dk_4 (dk_at dksX0_doIt_5 14 rfl rfl)
theorem dX0_doIt_163 : decode cX0_doIt 163 = .ok (.iaload, 1) := dk_46 (dk_at dksX0_doIt_5 15 rfl rfl)
theorem dX0_doIt_164 : decode cX0_doIt 164 = .ok (.aload_n 1, 1) := dk_43 (dk_at dksX0_doIt_5 16 rfl rfl)
theorem dX0_doIt_165 : decode cX0_doIt 165 = .ok (.iconst 2, 1) := dk_5 (dk_at dksX0_doIt_5 17 rfl rfl)
theorem dX0_doIt_166 : decode cX0_doIt 166 = .ok (.iaload, 1) := dk_46 (dk_at dksX0_doIt_5 18 rfl rfl)
theorem dX0_doIt_167 : decode cX0_doIt 167 = .ok (.aload_n 1, 1) := dk_43 (dk_at dksX0_doIt_5 19 rfl rfl)
theorem dX0_doIt_168 : decode cX0_doIt 168 = .ok (.iconst 3, 1) := dk_6 (dk_at dksX0_doIt_5 20 rfl rfl)
theorem dX0_doIt_169 : decode cX0_doIt 169 = .ok (.iaload, 1) := dk_46 (dk_at dksX0_doIt_5 21 rfl rfl)
theorem dX0_doIt_170 : decode cX0_doIt 170 = .ok (.iconst 0, 1) := dk_3 (dk_at dksX0_doIt_5 22 rfl rfl)
theorem dX0_doIt_171 : decode cX0_doIt 171 = .ok (.invokevirtual 223, 3) := dk_182 0 223 (dk_at dksX0_doIt_6 0 rfl rfl)
theorem dX0_doIt_174 : decode cX0_doIt 174 = .ok (.ireturn, 1) := dk_172 (dk_at dksX0_doIt_6 3 rfl rfl)
theorem dX0_doIt_175 : decode cX0_doIt 175 = .ok (.aload_n 0, 1) := dk_42 (dk_at dksX0_doIt_6 4 rfl rfl)
theorem dX0_doIt_176 : decode cX0_doIt 176 = .ok (.aload_n 1, 1) := dk_43 (dk_at dksX0_doIt_6 5 rfl rfl)
theorem dX0_doIt_177 : decode cX0_doIt 177 = .ok (.iconst 1, 1) := dk_4 (dk_at dksX0_doIt_6 6 rfl rfl)
theorem dX0_doIt_178 : decode cX0_doIt 178 = .ok (.iaload, 1) := dk_46 (dk_at dksX0_doIt_6 7 rfl rfl)
theorem dX0_doIt_179 : decode cX0_doIt 179 = .ok (.iconst 0, 1) := dk_3 (dk_at dksX0_doIt_6 8 rfl rfl)
theorem dX0_doIt_180 : decode cX0_doIt 180 = .ok (.invokevirtual 241, 3) := dk_182 0 241 (dk_at dksX0_doIt_6 9 rfl rfl)
theorem dX0_doIt_183 : decode cX0_doIt 183 = .ok (.ireturn, 1) := dk_172 (dk_at dksX0_doIt_6 12 rfl rfl)
theorem dX0_doIt_184 : decode cX0_doIt 184 = .ok (.aload_n 0, 1) := dk_42 (dk_at dksX0_doIt_6 13 rfl rfl)
theorem dX0_doIt_185 : decode cX0_doIt 185 = .ok (.aload_n 1, 1) := dk_43 (dk_at dksX0_doIt_6 14 rfl rfl)
theorem dX0_doIt_186 : decode cX0_doIt 186 = .ok (.iconst 1, 1) := dk_4 (dk_at dksX0_doIt_6 15 rfl rfl)
theorem dX0_doIt_187 : decode cX0_doIt 187 = .ok (.iaload, 1) := dk_46 (dk_at dksX0_doIt_6 16 rfl rfl)
theorem dX0_doIt_188 : decode cX0_doIt 188 = .ok (.iconst 0, 1) := dk_3 (dk_at dksX0_doIt_6 17 rfl rfl)
theorem dX0_doIt_189 : decode cX0_doIt 189 = .ok (.invokevirtual 232, 3) := dk_182 0 232 (dk_at dksX0_doIt_6 18 rfl rfl)
theorem dX0_doIt_192 : decode cX0_doIt 192 = .ok (.ireturn, 1) := dk_172 (dk_at dksX0_doIt_6 21 rfl rfl)
abbrev cX0_undo : ByteArray := prog_1_method_54_code
def yX0_undo : MethodName := ⟨RX0, "undo", "()I"⟩
def dkwX0_undo_2 : List UInt8 := [185, 0, 38, 1, 0, 172]
abbrev dktX0_undo_2 : List UInt8 := dkwX0_undo_2 ++ []
def dkwX0_undo_1 : List UInt8 := [185, 0, 38, 1, 0, 4, 100, 185, 0, 44, 2, 0, 192, 0, 13, 181, 0, 16, 42, 180, 0, 23]
abbrev dktX0_undo_1 : List UInt8 := dkwX0_undo_1 ++ dktX0_undo_2
def dkwX0_undo_0 : List UInt8 := [42, 180, 0, 23, 185, 1, 123, 1, 0, 153, 0, 6, 16, 251, 172, 42, 42, 180, 0, 23, 42, 180, 0, 23]
abbrev dktX0_undo_0 : List UInt8 := dkwX0_undo_0 ++ dktX0_undo_1
theorem dksX0_undo_0 : cX0_undo.data.toList.drop 0 = dktX0_undo_0 := by decide +kernel
theorem dksX0_undo_1 : cX0_undo.data.toList.drop 24 = dktX0_undo_1 := dk_seg dksX0_undo_0 24 rfl rfl
theorem dksX0_undo_2 : cX0_undo.data.toList.drop 46 = dktX0_undo_2 := dk_seg dksX0_undo_1 22 rfl rfl
theorem dX0_undo_0 : decode cX0_undo 0 = .ok (.aload_n 0, 1) := dk_42 (dk_at dksX0_undo_0 0 rfl rfl)
theorem dX0_undo_1 : decode cX0_undo 1 = .ok (.getfield 23, 3) := dk_180 0 23 (dk_at dksX0_undo_0 1 rfl rfl)
theorem dX0_undo_4 : decode cX0_undo 4 = .ok (.invokeinterface 379 1, 5) := by decide +kernel
theorem dX0_undo_9 : decode cX0_undo 9 = .ok (.ifCond .eq 6, 3) := dk_153 0 6 (dk_at dksX0_undo_0 9 rfl rfl)
theorem dX0_undo_12 : decode cX0_undo 12 = .ok (.bipush (-5), 2) := dk_16 251 (dk_at dksX0_undo_0 12 rfl rfl)
theorem dX0_undo_14 : decode cX0_undo 14 = .ok (.ireturn, 1) := dk_172 (dk_at dksX0_undo_0 14 rfl rfl)
theorem dX0_undo_15 : decode cX0_undo 15 = .ok (.aload_n 0, 1) := dk_42 (dk_at dksX0_undo_0 15 rfl rfl)
theorem dX0_undo_16 : decode cX0_undo 16 = .ok (.aload_n 0, 1) := dk_42 (dk_at dksX0_undo_0 16 rfl rfl)
theorem dX0_undo_17 : decode cX0_undo 17 = .ok (.getfield 23, 3) := dk_180 0 23 (dk_at dksX0_undo_0 17 rfl rfl)
theorem dX0_undo_20 : decode cX0_undo 20 = .ok (.aload_n 0, 1) := dk_42 (dk_at dksX0_undo_0 20 rfl rfl)
theorem dX0_undo_21 : decode cX0_undo 21 = .ok (.getfield 23, 3) := dk_180 0 23 (dk_at dksX0_undo_0 21 rfl rfl)
theorem dX0_undo_24 : decode cX0_undo 24 = .ok (.invokeinterface 38 1, 5) := by decide +kernel
theorem dX0_undo_29 : decode cX0_undo 29 = .ok (.iconst 1, 1) := dk_4 (dk_at dksX0_undo_1 5 rfl rfl)
theorem dX0_undo_30 : decode cX0_undo 30 = .ok (.isub, 1) := dk_100 (dk_at dksX0_undo_1 6 rfl rfl)
theorem dX0_undo_31 : decode cX0_undo 31 = .ok (.invokeinterface 44 2, 5) := by decide +kernel
theorem dX0_undo_36 : decode cX0_undo 36 = .ok (.checkcast 13, 3) := dk_192 0 13 (dk_at dksX0_undo_1 12 rfl rfl)
theorem dX0_undo_39 : decode cX0_undo 39 = .ok (.putfield 16, 3) := dk_181 0 16 (dk_at dksX0_undo_1 15 rfl rfl)
theorem dX0_undo_42 : decode cX0_undo 42 = .ok (.aload_n 0, 1) := dk_42 (dk_at dksX0_undo_1 18 rfl rfl)
theorem dX0_undo_43 : decode cX0_undo 43 = .ok (.getfield 23, 3) := dk_180 0 23 (dk_at dksX0_undo_1 19 rfl rfl)
theorem dX0_undo_46 : decode cX0_undo 46 = .ok (.invokeinterface 38 1, 5) := by decide +kernel
theorem dX0_undo_51 : decode cX0_undo 51 = .ok (.ireturn, 1) := dk_172 (dk_at dksX0_undo_2 5 rfl rfl)
abbrev cX0_save : ByteArray := prog_1_method_55_code
def yX0_save : MethodName := ⟨RX0, "save", "(I)I"⟩
def dkwX0_save_1 : List UInt8 := [83, 42, 180, 0, 16, 180, 0, 56, 185, 0, 38, 1, 0, 172]
abbrev dktX0_save_1 : List UInt8 := dkwX0_save_1 ++ []
def dkwX0_save_0 : List UInt8 := [27, 3, 4, 184, 0, 3, 154, 0, 6, 16, 254, 172, 42, 180, 0, 27, 27, 42, 180, 0, 16, 182, 0, 48]
abbrev dktX0_save_0 : List UInt8 := dkwX0_save_0 ++ dktX0_save_1
theorem dksX0_save_0 : cX0_save.data.toList.drop 0 = dktX0_save_0 := by decide +kernel
theorem dksX0_save_1 : cX0_save.data.toList.drop 24 = dktX0_save_1 := dk_seg dksX0_save_0 24 rfl rfl
theorem dX0_save_0 : decode cX0_save 0 = .ok (.iload_n 1, 1) := dk_27 (dk_at dksX0_save_0 0 rfl rfl)
theorem dX0_save_1 : decode cX0_save 1 = .ok (.iconst 0, 1) := dk_3 (dk_at dksX0_save_0 1 rfl rfl)
theorem dX0_save_2 : decode cX0_save 2 = .ok (.iconst 1, 1) := dk_4 (dk_at dksX0_save_0 2 rfl rfl)
theorem dX0_save_3 : decode cX0_save 3 = .ok (.invokestatic 3, 3) := dk_184 0 3 (dk_at dksX0_save_0 3 rfl rfl)
theorem dX0_save_6 : decode cX0_save 6 = .ok (.ifCond .ne 6, 3) := dk_154 0 6 (dk_at dksX0_save_0 6 rfl rfl)
theorem dX0_save_9 : decode cX0_save 9 = .ok (.bipush (-2), 2) := dk_16 254 (dk_at dksX0_save_0 9 rfl rfl)
theorem dX0_save_11 : decode cX0_save 11 = .ok (.ireturn, 1) := dk_172 (dk_at dksX0_save_0 11 rfl rfl)
theorem dX0_save_12 : decode cX0_save 12 = .ok (.aload_n 0, 1) := dk_42 (dk_at dksX0_save_0 12 rfl rfl)
theorem dX0_save_13 : decode cX0_save 13 = .ok (.getfield 27, 3) := dk_180 0 27 (dk_at dksX0_save_0 13 rfl rfl)
theorem dX0_save_16 : decode cX0_save 16 = .ok (.iload_n 1, 1) := dk_27 (dk_at dksX0_save_0 16 rfl rfl)
theorem dX0_save_17 : decode cX0_save 17 = .ok (.aload_n 0, 1) := dk_42 (dk_at dksX0_save_0 17 rfl rfl)
theorem dX0_save_18 : decode cX0_save 18 = .ok (.getfield 16, 3) := dk_180 0 16 (dk_at dksX0_save_0 18 rfl rfl)
theorem dX0_save_21 : decode cX0_save 21 = .ok (.invokevirtual 48, 3) := dk_182 0 48 (dk_at dksX0_save_0 21 rfl rfl)
theorem dX0_save_24 : decode cX0_save 24 = .ok (.aastore, 1) := dk_83 (dk_at dksX0_save_1 0 rfl rfl)
theorem dX0_save_25 : decode cX0_save 25 = .ok (.aload_n 0, 1) := dk_42 (dk_at dksX0_save_1 1 rfl rfl)
theorem dX0_save_26 : decode cX0_save 26 = .ok (.getfield 16, 3) := dk_180 0 16 (dk_at dksX0_save_1 2 rfl rfl)
theorem dX0_save_29 : decode cX0_save 29 = .ok (.getfield 56, 3) := dk_180 0 56 (dk_at dksX0_save_1 5 rfl rfl)
theorem dX0_save_32 : decode cX0_save 32 = .ok (.invokeinterface 38 1, 5) := by decide +kernel
theorem dX0_save_37 : decode cX0_save 37 = .ok (.ireturn, 1) := dk_172 (dk_at dksX0_save_1 13 rfl rfl)
abbrev cX0_restore : ByteArray := prog_1_method_56_code
def yX0_restore : MethodName := ⟨RX0, "restore", "(I)I"⟩
def dkwX0_restore_2 : List UInt8 := [185, 0, 38, 1, 0, 172]
abbrev dktX0_restore_2 : List UInt8 := dkwX0_restore_2 ++ []
def dkwX0_restore_1 : List UInt8 := [42, 182, 0, 69, 42, 42, 180, 0, 27, 27, 50, 182, 0, 48, 181, 0, 16, 42, 180, 0, 16, 180, 0, 56]
abbrev dktX0_restore_1 : List UInt8 := dkwX0_restore_1 ++ dktX0_restore_2
def dkwX0_restore_0 : List UInt8 := [27, 3, 4, 184, 0, 3, 154, 0, 6, 16, 254, 172, 42, 180, 0, 27, 27, 50, 199, 0, 6, 16, 251, 172]
abbrev dktX0_restore_0 : List UInt8 := dkwX0_restore_0 ++ dktX0_restore_1
theorem dksX0_restore_0 : cX0_restore.data.toList.drop 0 = dktX0_restore_0 := by decide +kernel
theorem dksX0_restore_1 : cX0_restore.data.toList.drop 24 = dktX0_restore_1 := dk_seg dksX0_restore_0 24 rfl rfl
theorem dksX0_restore_2 : cX0_restore.data.toList.drop 48 = dktX0_restore_2 := dk_seg dksX0_restore_1 24 rfl rfl
theorem dX0_restore_0 : decode cX0_restore 0 = .ok (.iload_n 1, 1) := dk_27 (dk_at dksX0_restore_0 0 rfl rfl)
theorem dX0_restore_1 : decode cX0_restore 1 = .ok (.iconst 0, 1) := dk_3 (dk_at dksX0_restore_0 1 rfl rfl)
theorem dX0_restore_2 : decode cX0_restore 2 = .ok (.iconst 1, 1) := dk_4 (dk_at dksX0_restore_0 2 rfl rfl)
theorem dX0_restore_3 : decode cX0_restore 3 = .ok (.invokestatic 3, 3) := dk_184 0 3 (dk_at dksX0_restore_0 3 rfl rfl)
theorem dX0_restore_6 : decode cX0_restore 6 = .ok (.ifCond .ne 6, 3) := dk_154 0 6 (dk_at dksX0_restore_0 6 rfl rfl)
theorem dX0_restore_9 : decode cX0_restore 9 = .ok (.bipush (-2), 2) := dk_16 254 (dk_at dksX0_restore_0 9 rfl rfl)
theorem dX0_restore_11 : decode cX0_restore 11 = .ok (.ireturn, 1) := dk_172 (dk_at dksX0_restore_0 11 rfl rfl)
theorem dX0_restore_12 : decode cX0_restore 12 = .ok (.aload_n 0, 1) := dk_42 (dk_at dksX0_restore_0 12 rfl rfl)
theorem dX0_restore_13 : decode cX0_restore 13 = .ok (.getfield 27, 3) := dk_180 0 27 (dk_at dksX0_restore_0 13 rfl rfl)
theorem dX0_restore_16 : decode cX0_restore 16 = .ok (.iload_n 1, 1) := dk_27 (dk_at dksX0_restore_0 16 rfl rfl)
theorem dX0_restore_17 : decode cX0_restore 17 = .ok (.aaload, 1) := dk_50 (dk_at dksX0_restore_0 17 rfl rfl)
theorem dX0_restore_18 : decode cX0_restore 18 = .ok (.ifnonnull 6, 3) := dk_199 0 6 (dk_at dksX0_restore_0 18 rfl rfl)
theorem dX0_restore_21 : decode cX0_restore 21 = .ok (.bipush (-5), 2) := dk_16 251 (dk_at dksX0_restore_0 21 rfl rfl)
theorem dX0_restore_23 : decode cX0_restore 23 = .ok (.ireturn, 1) := dk_172 (dk_at dksX0_restore_0 23 rfl rfl)
theorem dX0_restore_24 : decode cX0_restore 24 = .ok (.aload_n 0, 1) := dk_42 (dk_at dksX0_restore_1 0 rfl rfl)
theorem dX0_restore_25 : decode cX0_restore 25 = .ok (.invokevirtual 69, 3) := dk_182 0 69 (dk_at dksX0_restore_1 1 rfl rfl)
theorem dX0_restore_28 : decode cX0_restore 28 = .ok (.aload_n 0, 1) := dk_42 (dk_at dksX0_restore_1 4 rfl rfl)
theorem dX0_restore_29 : decode cX0_restore 29 = .ok (.aload_n 0, 1) := dk_42 (dk_at dksX0_restore_1 5 rfl rfl)
theorem dX0_restore_30 : decode cX0_restore 30 = .ok (.getfield 27, 3) := dk_180 0 27 (dk_at dksX0_restore_1 6 rfl rfl)
theorem dX0_restore_33 : decode cX0_restore 33 = .ok (.iload_n 1, 1) := dk_27 (dk_at dksX0_restore_1 9 rfl rfl)
theorem dX0_restore_34 : decode cX0_restore 34 = .ok (.aaload, 1) := dk_50 (dk_at dksX0_restore_1 10 rfl rfl)
theorem dX0_restore_35 : decode cX0_restore 35 = .ok (.invokevirtual 48, 3) := dk_182 0 48 (dk_at dksX0_restore_1 11 rfl rfl)
theorem dX0_restore_38 : decode cX0_restore 38 = .ok (.putfield 16, 3) := dk_181 0 16 (dk_at dksX0_restore_1 14 rfl rfl)
theorem dX0_restore_41 : decode cX0_restore 41 = .ok (.aload_n 0, 1) := dk_42 (dk_at dksX0_restore_1 17 rfl rfl)
theorem dX0_restore_42 : decode cX0_restore 42 = .ok (.getfield 16, 3) := dk_180 0 16 (dk_at dksX0_restore_1 18 rfl rfl)
theorem dX0_restore_45 : decode cX0_restore 45 = .ok (.getfield 56, 3) := dk_180 0 56 (dk_at dksX0_restore_1 21 rfl rfl)
theorem dX0_restore_48 : decode cX0_restore 48 = .ok (.invokeinterface 38 1, 5) := by decide +kernel
theorem dX0_restore_53 : decode cX0_restore 53 = .ok (.ireturn, 1) := dk_172 (dk_at dksX0_restore_2 5 rfl rfl)
theorem q89 : (Jvm.Cond.initialized "QuarryOrders") ∈ lw_all := lw_g (lw_at lw_m1 1 rfl) rfl
theorem q118 : (Jvm.Cond.instantiable "QuarryOrders" (4 : Nat)) ∈ lw_all := lw_g (lw_at lw_m1 30 rfl) rfl
theorem q120 : (Jvm.Cond.instanceMethod ({ cls := "QuarryOrders", name := "<init>", desc := "()V" } : Jvm.MethodName)) ∈ lw_all := lw_g (lw_at lw_m1 32 rfl) rfl
theorem q121 : (Jvm.Cond.code ({ cls := "QuarryOrders", name := "<init>", desc := "()V" } : Jvm.MethodName) prog_1_method_3_code (1 : Nat) (Option.none : Option Jvm.ClassFile.FieldType)) ∈ lw_all := lw_g (lw_at lw_m1 33 rfl) rfl
theorem q122 : (Jvm.Cond.methodLink "QuarryOrders" (7 : Nat) ({ cls := "java/lang/Object", name := "<init>", desc := "()V" } : Jvm.MethodName)) ∈ lw_all := lw_g (lw_at lw_m1 34 rfl) rfl
theorem q125 : (Jvm.Cond.classLink "QuarryOrders" (13 : Nat) "QuarryOrders$Quarry") ∈ lw_all := lw_g (lw_at lw_m1 37 rfl) rfl
theorem q127 : (Jvm.Cond.methodLink "QuarryOrders" (15 : Nat) ({ cls := "QuarryOrders$Quarry", name := "<init>", desc := "()V" } : Jvm.MethodName)) ∈ lw_all := lw_g (lw_at lw_m1 39 rfl) rfl
theorem q135 : (Jvm.Cond.laysStatic "QuarryOrders" "FIRST" "[I") ∈ lw_tbl := lw_at lw_m1 47 rfl
theorem q174 : (Jvm.Cond.fieldLinkNest "QuarryOrders" (145 : Nat) "QuarryOrders$Quarry" "settings" "[I" "QuarryOrders") ∈ lw_tbl := lw_at lw_m1 86 rfl
theorem q176 : (Jvm.Cond.fieldLinkNest "QuarryOrders" (205 : Nat) "QuarryOrders$Quarry" "front" "[I" "QuarryOrders") ∈ lw_tbl := lw_at lw_m1 88 rfl
theorem q178 : (Jvm.Cond.fieldLinkNest "QuarryOrders" (208 : Nat) "QuarryOrders$Quarry" "rear" "[I" "QuarryOrders") ∈ lw_tbl := lw_at lw_m1 90 rfl
theorem q180 : (Jvm.Cond.fieldLinkNest "QuarryOrders" (211 : Nat) "QuarryOrders$Quarry" "load" "[I" "QuarryOrders") ∈ lw_tbl := lw_at lw_m1 92 rfl
theorem q182 : (Jvm.Cond.fieldLinkNest "QuarryOrders" (287 : Nat) "QuarryOrders$Quarry" "left" "[I" "QuarryOrders") ∈ lw_tbl := lw_at lw_m1 94 rfl
theorem q184 : (Jvm.Cond.fieldLinkNest "QuarryOrders" (56 : Nat) "QuarryOrders$Quarry" "blocks" "Ljava/util/List;" "QuarryOrders") ∈ lw_tbl := lw_at lw_m1 96 rfl
theorem q186 : (Jvm.Cond.fieldLinkNest "QuarryOrders" (59 : Nat) "QuarryOrders$Quarry" "orders" "Ljava/util/List;" "QuarryOrders") ∈ lw_tbl := lw_at lw_m1 98 rfl
theorem q188 : (Jvm.Cond.fieldLinkNest "QuarryOrders" (76 : Nat) "QuarryOrders$Quarry" "frost" "Z" "QuarryOrders") ∈ lw_tbl := lw_at lw_m1 100 rfl
theorem q190 : (Jvm.Cond.fieldLinkNest "QuarryOrders" (131 : Nat) "QuarryOrders$Quarry" "nights" "I" "QuarryOrders") ∈ lw_tbl := lw_at lw_m1 102 rfl
theorem q192 : (Jvm.Cond.fieldLinkNest "QuarryOrders" (295 : Nat) "QuarryOrders$Quarry" "quarried" "I" "QuarryOrders") ∈ lw_tbl := lw_at lw_m1 104 rfl
theorem q194 : (Jvm.Cond.fieldLinkNest "QuarryOrders" (302 : Nat) "QuarryOrders$Quarry" "lost" "I" "QuarryOrders") ∈ lw_tbl := lw_at lw_m1 106 rfl
theorem q196 : (Jvm.Cond.fieldLinkNest "QuarryOrders" (305 : Nat) "QuarryOrders$Quarry" "delivered" "I" "QuarryOrders") ∈ lw_tbl := lw_at lw_m1 108 rfl
theorem q198 : (Jvm.Cond.fieldLinkNest "QuarryOrders" (308 : Nat) "QuarryOrders$Quarry" "invoices" "I" "QuarryOrders") ∈ lw_tbl := lw_at lw_m1 110 rfl
theorem q226 : (Jvm.Cond.classLink "QuarryOrders" (20 : Nat) "java/util/ArrayList") ∈ lw_all := lw_g (lw_at lw_m1 138 rfl) rfl
theorem q227 : (Jvm.Cond.methodLink "QuarryOrders" (22 : Nat) ({ cls := "java/util/ArrayList", name := "<init>", desc := "()V" } : Jvm.MethodName)) ∈ lw_all := lw_g (lw_at lw_m1 139 rfl) rfl
theorem q229 : (Jvm.Cond.classLink "QuarryOrders" (31 : Nat) "java/lang/StringBuilder") ∈ lw_all := lw_g (lw_at lw_m1 141 rfl) rfl
theorem q231 : (Jvm.Cond.methodLink "QuarryOrders" (33 : Nat) ({ cls := "java/lang/StringBuilder", name := "<init>", desc := "()V" } : Jvm.MethodName)) ∈ lw_all := lw_g (lw_at lw_m1 143 rfl) rfl
theorem q261 : (Jvm.Cond.fieldLink "QuarryOrders" (16 : Nat) "QuarryOrders" "now" "LQuarryOrders$Quarry;") ∈ lw_all := lw_g (lw_at lw_m1 173 rfl) rfl
theorem q262 : (Jvm.Cond.fieldLink "QuarryOrders" (23 : Nat) "QuarryOrders" "past" "Ljava/util/List;") ∈ lw_all := lw_g (lw_at lw_m1 174 rfl) rfl
theorem q263 : (Jvm.Cond.fieldLink "QuarryOrders" (27 : Nat) "QuarryOrders" "saved" "[LQuarryOrders$Quarry;") ∈ lw_all := lw_g (lw_at lw_m1 175 rfl) rfl
theorem q265 : (Jvm.Cond.fieldLink "QuarryOrders" (34 : Nat) "QuarryOrders" "pad" "Ljava/lang/StringBuilder;") ∈ lw_all := lw_g (lw_at lw_m1 177 rfl) rfl
theorem q266 : (Jvm.Cond.lays "QuarryOrders" "QuarryOrders" "now" "LQuarryOrders$Quarry;") ∈ lw_all := lw_g (lw_at lw_m1 178 rfl) rfl
theorem q267 : (Jvm.Cond.soleField "QuarryOrders" "now") ∈ lw_all := lw_g (lw_at lw_m1 179 rfl) rfl
theorem q268 : (Jvm.Cond.laysFinal "QuarryOrders" "QuarryOrders" "past" "Ljava/util/List;") ∈ lw_all := lw_g (lw_at lw_m1 180 rfl) rfl
theorem q269 : (Jvm.Cond.soleField "QuarryOrders" "past") ∈ lw_all := lw_g (lw_at lw_m1 181 rfl) rfl
theorem q270 : (Jvm.Cond.laysFinal "QuarryOrders" "QuarryOrders" "saved" "[LQuarryOrders$Quarry;") ∈ lw_all := lw_g (lw_at lw_m1 182 rfl) rfl
theorem q271 : (Jvm.Cond.soleField "QuarryOrders" "saved") ∈ lw_all := lw_g (lw_at lw_m1 183 rfl) rfl
theorem q272 : (Jvm.Cond.laysFinal "QuarryOrders" "QuarryOrders" "pad" "Ljava/lang/StringBuilder;") ∈ lw_all := lw_g (lw_at lw_m1 184 rfl) rfl
theorem q273 : (Jvm.Cond.soleField "QuarryOrders" "pad") ∈ lw_all := lw_g (lw_at lw_m1 185 rfl) rfl
theorem q274 : (Jvm.Cond.superclass "QuarryOrders" "java/lang/Object") ∈ lw_all := lw_g (lw_at lw_m1 186 rfl) rfl
theorem q276 : (Jvm.Cond.instanceMethod ({ cls := "QuarryOrders", name := "set", desc := "(II)I" } : Jvm.MethodName)) ∈ lw_all := lw_g (lw_at lw_m1 188 rfl) rfl
theorem q277 : (Jvm.Cond.selects "QuarryOrders" ({ cls := "QuarryOrders", name := "set", desc := "(II)I" } : Jvm.MethodName) ({ cls := "QuarryOrders", name := "set", desc := "(II)I" } : Jvm.MethodName)) ∈ lw_all := lw_g (lw_at lw_m1 189 rfl) rfl
theorem q278 : (Jvm.Cond.code ({ cls := "QuarryOrders", name := "set", desc := "(II)I" } : Jvm.MethodName) prog_1_method_19_code (6 : Nat) (Option.some Jvm.ClassFile.FieldType.int)) ∈ lw_all := lw_g (lw_at lw_m1 190 rfl) rfl
theorem q279 : (Jvm.Cond.methodLink "QuarryOrders" (3 : Nat) ({ cls := "QuarryOrders", name := "isIn", desc := "(III)Z" } : Jvm.MethodName)) ∈ lw_all := lw_g (lw_at lw_m1 191 rfl) rfl
theorem q280 : (Jvm.Cond.static ({ cls := "QuarryOrders", name := "isIn", desc := "(III)Z" } : Jvm.MethodName)) ∈ lw_all := lw_g (lw_at lw_m1 192 rfl) rfl
theorem q281 : (Jvm.Cond.code ({ cls := "QuarryOrders", name := "isIn", desc := "(III)Z" } : Jvm.MethodName) prog_1_method_1_code (3 : Nat) (Option.some Jvm.ClassFile.FieldType.boolean)) ∈ lw_all := lw_g (lw_at lw_m1 193 rfl) rfl
theorem q282 : (Jvm.Cond.fieldLink "QuarryOrders" (134 : Nat) "QuarryOrders" "LEAST" "[I") ∈ lw_all := lw_g (lw_at lw_m1 194 rfl) rfl
theorem q283 : (Jvm.Cond.laysStatic "QuarryOrders" "LEAST" "[I") ∈ lw_tbl := lw_at lw_m1 195 rfl
theorem q284 : (Jvm.Cond.fieldLink "QuarryOrders" (138 : Nat) "QuarryOrders" "MOST" "[I") ∈ lw_all := lw_g (lw_at lw_m1 196 rfl) rfl
theorem q285 : (Jvm.Cond.laysStatic "QuarryOrders" "MOST" "[I") ∈ lw_tbl := lw_at lw_m1 197 rfl
theorem q286 : (Jvm.Cond.methodLink "QuarryOrders" (141 : Nat) ({ cls := "QuarryOrders", name := "begun", desc := "(IZ)I" } : Jvm.MethodName)) ∈ lw_all := lw_g (lw_at lw_m1 198 rfl) rfl
theorem q287 : (Jvm.Cond.privateMethod ({ cls := "QuarryOrders", name := "begun", desc := "(IZ)I" } : Jvm.MethodName)) ∈ lw_tbl := lw_at lw_m1 199 rfl
theorem q288 : (Jvm.Cond.instanceMethod ({ cls := "QuarryOrders", name := "begun", desc := "(IZ)I" } : Jvm.MethodName)) ∈ lw_all := lw_g (lw_at lw_m1 200 rfl) rfl
theorem q289 : (Jvm.Cond.code ({ cls := "QuarryOrders", name := "begun", desc := "(IZ)I" } : Jvm.MethodName) prog_1_method_10_code (3 : Nat) (Option.some Jvm.ClassFile.FieldType.int)) ∈ lw_all := lw_g (lw_at lw_m1 201 rfl) rfl
theorem q290 : (Jvm.Cond.methodLink "QuarryOrders" (69 : Nat) ({ cls := "QuarryOrders", name := "record", desc := "()V" } : Jvm.MethodName)) ∈ lw_all := lw_g (lw_at lw_m1 202 rfl) rfl
theorem q291 : (Jvm.Cond.privateMethod ({ cls := "QuarryOrders", name := "record", desc := "()V" } : Jvm.MethodName)) ∈ lw_tbl := lw_at lw_m1 203 rfl
theorem q292 : (Jvm.Cond.instanceMethod ({ cls := "QuarryOrders", name := "record", desc := "()V" } : Jvm.MethodName)) ∈ lw_all := lw_g (lw_at lw_m1 204 rfl) rfl
theorem q293 : (Jvm.Cond.code ({ cls := "QuarryOrders", name := "record", desc := "()V" } : Jvm.MethodName) prog_1_method_4_code (1 : Nat) (Option.none : Option Jvm.ClassFile.FieldType)) ∈ lw_all := lw_g (lw_at lw_m1 205 rfl) rfl
theorem q294 : (Jvm.Cond.interfaceEntry "QuarryOrders" (38 : Nat)) ∈ lw_tbl := lw_at lw_m1 206 rfl
theorem q295 : (Jvm.Cond.methodLink "QuarryOrders" (38 : Nat) ({ cls := "java/util/List", name := "size", desc := "()I" } : Jvm.MethodName)) ∈ lw_all := lw_g (lw_at lw_m1 207 rfl) rfl
theorem q304 : (Jvm.Cond.interfaceEntry "QuarryOrders" (44 : Nat)) ∈ lw_tbl := lw_at lw_m1 216 rfl
theorem q305 : (Jvm.Cond.methodLink "QuarryOrders" (44 : Nat) ({ cls := "java/util/List", name := "remove", desc := "(I)Ljava/lang/Object;" } : Jvm.MethodName)) ∈ lw_all := lw_g (lw_at lw_m1 217 rfl) rfl
theorem q326 : (Jvm.Cond.methodLink "QuarryOrders" (48 : Nat) ({ cls := "QuarryOrders$Quarry", name := "copy", desc := "()LQuarryOrders$Quarry;" } : Jvm.MethodName)) ∈ lw_all := lw_g (lw_at lw_m1 238 rfl) rfl
theorem q394 : (Jvm.Cond.fieldLinkNest "QuarryOrders" (349 : Nat) "QuarryOrders$Block" "number" "I" "QuarryOrders") ∈ lw_tbl := lw_at lw_m2 66 rfl
theorem q397 : (Jvm.Cond.fieldLinkNest "QuarryOrders" (244 : Nat) "QuarryOrders$Block" "sizes" "LQuarryOrders$Sizes;" "QuarryOrders") ∈ lw_tbl := lw_at lw_m2 69 rfl
theorem q400 : (Jvm.Cond.fieldLinkNest "QuarryOrders" (251 : Nat) "QuarryOrders$Block" "density" "I" "QuarryOrders") ∈ lw_tbl := lw_at lw_m2 72 rfl
theorem q402 : (Jvm.Cond.fieldLinkNest "QuarryOrders" (263 : Nat) "QuarryOrders$Block" "from" "I" "QuarryOrders") ∈ lw_tbl := lw_at lw_m2 74 rfl
theorem q405 : (Jvm.Cond.fieldLinkNest "QuarryOrders" (104 : Nat) "QuarryOrders$Block" "where" "I" "QuarryOrders") ∈ lw_tbl := lw_at lw_m2 77 rfl
theorem q408 : (Jvm.Cond.fieldLinkNest "QuarryOrders" (257 : Nat) "QuarryOrders$Block" "wet" "I" "QuarryOrders") ∈ lw_tbl := lw_at lw_m2 80 rfl
theorem q411 : (Jvm.Cond.fieldLinkNest "QuarryOrders" (84 : Nat) "QuarryOrders$Block" "order" "I" "QuarryOrders") ∈ lw_tbl := lw_at lw_m2 83 rfl
theorem q414 : (Jvm.Cond.fieldLinkNest "QuarryOrders" (217 : Nat) "QuarryOrders$Block" "place" "I" "QuarryOrders") ∈ lw_tbl := lw_at lw_m2 86 rfl
theorem q417 : (Jvm.Cond.fieldLinkNest "QuarryOrders" (260 : Nat) "QuarryOrders$Block" "cracked" "Z" "QuarryOrders") ∈ lw_tbl := lw_at lw_m2 89 rfl
theorem q474 : (Jvm.Cond.selects "QuarryOrders" ({ cls := "java/lang/Object", name := "getClass", desc := "()Ljava/lang/Class;" } : Jvm.MethodName) ({ cls := "java/lang/Object", name := "getClass", desc := "()Ljava/lang/Class;" } : Jvm.MethodName)) ∈ lw_all := lw_g (lw_at lw_m2 146 rfl) rfl
theorem q508 : (Jvm.Cond.fieldLinkNest "QuarryOrders" (266 : Nat) "QuarryOrders$Order" "sizes" "LQuarryOrders$Sizes;" "QuarryOrders") ∈ lw_tbl := lw_at lw_m2 180 rfl
theorem q511 : (Jvm.Cond.fieldLinkNest "QuarryOrders" (117 : Nat) "QuarryOrders$Order" "state" "I" "QuarryOrders") ∈ lw_tbl := lw_at lw_m2 183 rfl
theorem q513 : (Jvm.Cond.fieldLinkNest "QuarryOrders" (195 : Nat) "QuarryOrders$Order" "block" "I" "QuarryOrders") ∈ lw_tbl := lw_at lw_m2 185 rfl
theorem q516 : (Jvm.Cond.fieldLinkNest "QuarryOrders" (267 : Nat) "QuarryOrders$Order" "invoice" "I" "QuarryOrders") ∈ lw_tbl := lw_at lw_m2 188 rfl
theorem q526 : (Jvm.Cond.interfaceEntry "QuarryOrders" (52 : Nat)) ∈ lw_tbl := lw_at lw_m2 198 rfl
theorem q527 : (Jvm.Cond.methodLink "QuarryOrders" (52 : Nat) ({ cls := "java/util/List", name := "add", desc := "(Ljava/lang/Object;)Z" } : Jvm.MethodName)) ∈ lw_all := lw_g (lw_at lw_m2 199 rfl) rfl
theorem q529 : (Jvm.Cond.instanceMethod ({ cls := "QuarryOrders", name := "quarry", desc := "(IIII)I" } : Jvm.MethodName)) ∈ lw_all := lw_g (lw_at lw_m2 201 rfl) rfl
theorem q530 : (Jvm.Cond.selects "QuarryOrders" ({ cls := "QuarryOrders", name := "quarry", desc := "(IIII)I" } : Jvm.MethodName) ({ cls := "QuarryOrders", name := "quarry", desc := "(IIII)I" } : Jvm.MethodName)) ∈ lw_all := lw_g (lw_at lw_m2 202 rfl) rfl
theorem q531 : (Jvm.Cond.code ({ cls := "QuarryOrders", name := "quarry", desc := "(IIII)I" } : Jvm.MethodName) prog_1_method_21_code (5 : Nat) (Option.some Jvm.ClassFile.FieldType.int)) ∈ lw_all := lw_g (lw_at lw_m2 203 rfl) rfl
theorem q532 : (Jvm.Cond.methodLink "QuarryOrders" (161 : Nat) ({ cls := "QuarryOrders", name := "quarries", desc := "(ZI[I)I" } : Jvm.MethodName)) ∈ lw_all := lw_g (lw_at lw_m2 204 rfl) rfl
theorem q533 : (Jvm.Cond.privateMethod ({ cls := "QuarryOrders", name := "quarries", desc := "(ZI[I)I" } : Jvm.MethodName)) ∈ lw_tbl := lw_at lw_m2 205 rfl
theorem q534 : (Jvm.Cond.instanceMethod ({ cls := "QuarryOrders", name := "quarries", desc := "(ZI[I)I" } : Jvm.MethodName)) ∈ lw_all := lw_g (lw_at lw_m2 206 rfl) rfl
theorem q535 : (Jvm.Cond.code ({ cls := "QuarryOrders", name := "quarries", desc := "(ZI[I)I" } : Jvm.MethodName) prog_1_method_20_code (5 : Nat) (Option.some Jvm.ClassFile.FieldType.int)) ∈ lw_all := lw_g (lw_at lw_m2 207 rfl) rfl
theorem q536 : (Jvm.Cond.methodLink "QuarryOrders" (148 : Nat) ({ cls := "QuarryOrders", name := "whyNotQuarry", desc := "(I[I)I" } : Jvm.MethodName)) ∈ lw_all := lw_g (lw_at lw_m2 208 rfl) rfl
theorem q537 : (Jvm.Cond.privateMethod ({ cls := "QuarryOrders", name := "whyNotQuarry", desc := "(I[I)I" } : Jvm.MethodName)) ∈ lw_tbl := lw_at lw_m2 209 rfl
theorem q538 : (Jvm.Cond.instanceMethod ({ cls := "QuarryOrders", name := "whyNotQuarry", desc := "(I[I)I" } : Jvm.MethodName)) ∈ lw_all := lw_g (lw_at lw_m2 210 rfl) rfl
theorem q539 : (Jvm.Cond.code ({ cls := "QuarryOrders", name := "whyNotQuarry", desc := "(I[I)I" } : Jvm.MethodName) prog_1_method_11_code (4 : Nat) (Option.some Jvm.ClassFile.FieldType.int)) ∈ lw_all := lw_g (lw_at lw_m2 211 rfl) rfl
theorem q540 : (Jvm.Cond.methodLink "QuarryOrders" (72 : Nat) ({ cls := "QuarryOrders", name := "areSizes", desc := "([I)Z" } : Jvm.MethodName)) ∈ lw_all := lw_g (lw_at lw_m2 212 rfl) rfl
theorem q541 : (Jvm.Cond.static ({ cls := "QuarryOrders", name := "areSizes", desc := "([I)Z" } : Jvm.MethodName)) ∈ lw_all := lw_g (lw_at lw_m2 213 rfl) rfl
theorem q542 : (Jvm.Cond.code ({ cls := "QuarryOrders", name := "areSizes", desc := "([I)Z" } : Jvm.MethodName) prog_1_method_2_code (6 : Nat) (Option.some Jvm.ClassFile.FieldType.boolean)) ∈ lw_all := lw_g (lw_at lw_m2 214 rfl) rfl
theorem q543 : (Jvm.Cond.classLink "QuarryOrders" (152 : Nat) "QuarryOrders$Sizes") ∈ lw_all := lw_g (lw_at lw_m2 215 rfl) rfl
theorem q545 : (Jvm.Cond.methodLinkNest "QuarryOrders" (154 : Nat) ({ cls := "QuarryOrders$Sizes", name := "<init>", desc := "(III)V" } : Jvm.MethodName) "QuarryOrders") ∈ lw_tbl := lw_at lw_m2 217 rfl
theorem q562 : (Jvm.Cond.methodLink "QuarryOrders" (157 : Nat) ({ cls := "QuarryOrders$Quarry", name := "quarry", desc := "(LQuarryOrders$Sizes;I)I" } : Jvm.MethodName)) ∈ lw_all := lw_g (lw_at lw_m2 234 rfl) rfl
theorem q580 : (Jvm.Cond.instanceMethod ({ cls := "QuarryOrders", name := "cut", desc := "(III)I" } : Jvm.MethodName)) ∈ lw_all := lw_g (lw_at lw_m3 12 rfl) rfl
theorem q581 : (Jvm.Cond.selects "QuarryOrders" ({ cls := "QuarryOrders", name := "cut", desc := "(III)I" } : Jvm.MethodName) ({ cls := "QuarryOrders", name := "cut", desc := "(III)I" } : Jvm.MethodName)) ∈ lw_all := lw_g (lw_at lw_m3 13 rfl) rfl
theorem q582 : (Jvm.Cond.code ({ cls := "QuarryOrders", name := "cut", desc := "(III)I" } : Jvm.MethodName) prog_1_method_23_code (4 : Nat) (Option.some Jvm.ClassFile.FieldType.int)) ∈ lw_all := lw_g (lw_at lw_m3 14 rfl) rfl
theorem q583 : (Jvm.Cond.methodLink "QuarryOrders" (173 : Nat) ({ cls := "QuarryOrders", name := "cuts", desc := "(IIIZ)I" } : Jvm.MethodName)) ∈ lw_all := lw_g (lw_at lw_m3 15 rfl) rfl
theorem q584 : (Jvm.Cond.privateMethod ({ cls := "QuarryOrders", name := "cuts", desc := "(IIIZ)I" } : Jvm.MethodName)) ∈ lw_tbl := lw_at lw_m3 16 rfl
theorem q585 : (Jvm.Cond.instanceMethod ({ cls := "QuarryOrders", name := "cuts", desc := "(IIIZ)I" } : Jvm.MethodName)) ∈ lw_all := lw_g (lw_at lw_m3 17 rfl) rfl
theorem q586 : (Jvm.Cond.code ({ cls := "QuarryOrders", name := "cuts", desc := "(IIIZ)I" } : Jvm.MethodName) prog_1_method_22_code (6 : Nat) (Option.some Jvm.ClassFile.FieldType.int)) ∈ lw_all := lw_g (lw_at lw_m3 18 rfl) rfl
theorem q587 : (Jvm.Cond.methodLink "QuarryOrders" (165 : Nat) ({ cls := "QuarryOrders", name := "whyNotCut", desc := "(III)I" } : Jvm.MethodName)) ∈ lw_all := lw_g (lw_at lw_m3 19 rfl) rfl
theorem q588 : (Jvm.Cond.privateMethod ({ cls := "QuarryOrders", name := "whyNotCut", desc := "(III)I" } : Jvm.MethodName)) ∈ lw_tbl := lw_at lw_m3 20 rfl
theorem q589 : (Jvm.Cond.instanceMethod ({ cls := "QuarryOrders", name := "whyNotCut", desc := "(III)I" } : Jvm.MethodName)) ∈ lw_all := lw_g (lw_at lw_m3 21 rfl) rfl
theorem q590 : (Jvm.Cond.code ({ cls := "QuarryOrders", name := "whyNotCut", desc := "(III)I" } : Jvm.MethodName) prog_1_method_13_code (5 : Nat) (Option.some Jvm.ClassFile.FieldType.int)) ∈ lw_all := lw_g (lw_at lw_m3 22 rfl) rfl
theorem q591 : (Jvm.Cond.methodLink "QuarryOrders" (88 : Nat) ({ cls := "QuarryOrders", name := "isBlock", desc := "(I)Z" } : Jvm.MethodName)) ∈ lw_all := lw_g (lw_at lw_m3 23 rfl) rfl
theorem q592 : (Jvm.Cond.privateMethod ({ cls := "QuarryOrders", name := "isBlock", desc := "(I)Z" } : Jvm.MethodName)) ∈ lw_tbl := lw_at lw_m3 24 rfl
theorem q593 : (Jvm.Cond.instanceMethod ({ cls := "QuarryOrders", name := "isBlock", desc := "(I)Z" } : Jvm.MethodName)) ∈ lw_all := lw_g (lw_at lw_m3 25 rfl) rfl
theorem q594 : (Jvm.Cond.code ({ cls := "QuarryOrders", name := "isBlock", desc := "(I)Z" } : Jvm.MethodName) prog_1_method_5_code (2 : Nat) (Option.some Jvm.ClassFile.FieldType.boolean)) ∈ lw_all := lw_g (lw_at lw_m3 26 rfl) rfl
theorem q595 : (Jvm.Cond.methodLink "QuarryOrders" (92 : Nat) ({ cls := "QuarryOrders", name := "blockAt", desc := "(I)LQuarryOrders$Block;" } : Jvm.MethodName)) ∈ lw_all := lw_g (lw_at lw_m3 27 rfl) rfl
theorem q596 : (Jvm.Cond.privateMethod ({ cls := "QuarryOrders", name := "blockAt", desc := "(I)LQuarryOrders$Block;" } : Jvm.MethodName)) ∈ lw_tbl := lw_at lw_m3 28 rfl
theorem q597 : (Jvm.Cond.instanceMethod ({ cls := "QuarryOrders", name := "blockAt", desc := "(I)LQuarryOrders$Block;" } : Jvm.MethodName)) ∈ lw_all := lw_g (lw_at lw_m3 29 rfl) rfl
theorem q598 : (Jvm.Cond.code ({ cls := "QuarryOrders", name := "blockAt", desc := "(I)LQuarryOrders$Block;" } : Jvm.MethodName) prog_1_method_8_code (2 : Nat) (Option.some (Jvm.ClassFile.FieldType.object "QuarryOrders$Block"))) ∈ lw_all := lw_g (lw_at lw_m3 30 rfl) rfl
theorem q599 : (Jvm.Cond.interfaceEntry "QuarryOrders" (62 : Nat)) ∈ lw_tbl := lw_at lw_m3 31 rfl
theorem q600 : (Jvm.Cond.methodLink "QuarryOrders" (62 : Nat) ({ cls := "java/util/List", name := "get", desc := "(I)Ljava/lang/Object;" } : Jvm.MethodName)) ∈ lw_all := lw_g (lw_at lw_m3 32 rfl) rfl
theorem q612 : (Jvm.Cond.classLink "QuarryOrders" (65 : Nat) "QuarryOrders$Block") ∈ lw_all := lw_g (lw_at lw_m3 44 rfl) rfl
theorem q613 : (Jvm.Cond.methodLink "QuarryOrders" (96 : Nat) ({ cls := "QuarryOrders", name := "canBeCut", desc := "(LQuarryOrders$Block;)Z" } : Jvm.MethodName)) ∈ lw_all := lw_g (lw_at lw_m3 45 rfl) rfl
theorem q614 : (Jvm.Cond.privateMethod ({ cls := "QuarryOrders", name := "canBeCut", desc := "(LQuarryOrders$Block;)Z" } : Jvm.MethodName)) ∈ lw_tbl := lw_at lw_m3 46 rfl
theorem q615 : (Jvm.Cond.instanceMethod ({ cls := "QuarryOrders", name := "canBeCut", desc := "(LQuarryOrders$Block;)Z" } : Jvm.MethodName)) ∈ lw_all := lw_g (lw_at lw_m3 47 rfl) rfl
theorem q616 : (Jvm.Cond.code ({ cls := "QuarryOrders", name := "canBeCut", desc := "(LQuarryOrders$Block;)Z" } : Jvm.MethodName) prog_1_method_12_code (2 : Nat) (Option.some Jvm.ClassFile.FieldType.boolean)) ∈ lw_all := lw_g (lw_at lw_m3 48 rfl) rfl
theorem q617 : (Jvm.Cond.methodLink "QuarryOrders" (80 : Nat) ({ cls := "QuarryOrders$Block", name := "isAtHand", desc := "()Z" } : Jvm.MethodName)) ∈ lw_all := lw_g (lw_at lw_m3 49 rfl) rfl
theorem q621 : (Jvm.Cond.methodLink "QuarryOrders" (100 : Nat) ({ cls := "QuarryOrders$Quarry", name := "leavesRest", desc := "(LQuarryOrders$Block;II)Z" } : Jvm.MethodName)) ∈ lw_all := lw_g (lw_at lw_m3 53 rfl) rfl
theorem q629 : (Jvm.Cond.methodLink "QuarryOrders" (169 : Nat) ({ cls := "QuarryOrders$Quarry", name := "cut", desc := "(LQuarryOrders$Block;II)I" } : Jvm.MethodName)) ∈ lw_all := lw_g (lw_at lw_m3 61 rfl) rfl
theorem q659 : (Jvm.Cond.instanceMethod ({ cls := "QuarryOrders", name := "shelter", desc := "(I)I" } : Jvm.MethodName)) ∈ lw_all := lw_g (lw_at lw_m3 91 rfl) rfl
theorem q660 : (Jvm.Cond.selects "QuarryOrders" ({ cls := "QuarryOrders", name := "shelter", desc := "(I)I" } : Jvm.MethodName) ({ cls := "QuarryOrders", name := "shelter", desc := "(I)I" } : Jvm.MethodName)) ∈ lw_all := lw_g (lw_at lw_m3 92 rfl) rfl
theorem q661 : (Jvm.Cond.code ({ cls := "QuarryOrders", name := "shelter", desc := "(I)I" } : Jvm.MethodName) prog_1_method_24_code (3 : Nat) (Option.some Jvm.ClassFile.FieldType.int)) ∈ lw_all := lw_g (lw_at lw_m3 93 rfl) rfl
theorem q662 : (Jvm.Cond.methodLink "QuarryOrders" (177 : Nat) ({ cls := "QuarryOrders", name := "whyNotShelter", desc := "(I)I" } : Jvm.MethodName)) ∈ lw_all := lw_g (lw_at lw_m3 94 rfl) rfl
theorem q663 : (Jvm.Cond.privateMethod ({ cls := "QuarryOrders", name := "whyNotShelter", desc := "(I)I" } : Jvm.MethodName)) ∈ lw_tbl := lw_at lw_m3 95 rfl
theorem q664 : (Jvm.Cond.instanceMethod ({ cls := "QuarryOrders", name := "whyNotShelter", desc := "(I)I" } : Jvm.MethodName)) ∈ lw_all := lw_g (lw_at lw_m3 96 rfl) rfl
theorem q665 : (Jvm.Cond.code ({ cls := "QuarryOrders", name := "whyNotShelter", desc := "(I)I" } : Jvm.MethodName) prog_1_method_14_code (3 : Nat) (Option.some Jvm.ClassFile.FieldType.int)) ∈ lw_all := lw_g (lw_at lw_m3 97 rfl) rfl
theorem q666 : (Jvm.Cond.methodLink "QuarryOrders" (107 : Nat) ({ cls := "QuarryOrders$Quarry", name := "roofed", desc := "()I" } : Jvm.MethodName)) ∈ lw_all := lw_g (lw_at lw_m3 98 rfl) rfl
theorem q668 : (Jvm.Cond.instanceMethod ({ cls := "QuarryOrders", name := "order", desc := "(III)I" } : Jvm.MethodName)) ∈ lw_all := lw_g (lw_at lw_m3 100 rfl) rfl
theorem q669 : (Jvm.Cond.selects "QuarryOrders" ({ cls := "QuarryOrders", name := "order", desc := "(III)I" } : Jvm.MethodName) ({ cls := "QuarryOrders", name := "order", desc := "(III)I" } : Jvm.MethodName)) ∈ lw_all := lw_g (lw_at lw_m3 101 rfl) rfl
theorem q670 : (Jvm.Cond.code ({ cls := "QuarryOrders", name := "order", desc := "(III)I" } : Jvm.MethodName) prog_1_method_26_code (4 : Nat) (Option.some Jvm.ClassFile.FieldType.int)) ∈ lw_all := lw_g (lw_at lw_m3 102 rfl) rfl
theorem q671 : (Jvm.Cond.methodLink "QuarryOrders" (188 : Nat) ({ cls := "QuarryOrders", name := "orders", desc := "(Z[I)I" } : Jvm.MethodName)) ∈ lw_all := lw_g (lw_at lw_m3 103 rfl) rfl
theorem q672 : (Jvm.Cond.privateMethod ({ cls := "QuarryOrders", name := "orders", desc := "(Z[I)I" } : Jvm.MethodName)) ∈ lw_tbl := lw_at lw_m3 104 rfl
theorem q673 : (Jvm.Cond.instanceMethod ({ cls := "QuarryOrders", name := "orders", desc := "(Z[I)I" } : Jvm.MethodName)) ∈ lw_all := lw_g (lw_at lw_m3 105 rfl) rfl
theorem q674 : (Jvm.Cond.code ({ cls := "QuarryOrders", name := "orders", desc := "(Z[I)I" } : Jvm.MethodName) prog_1_method_25_code (4 : Nat) (Option.some Jvm.ClassFile.FieldType.int)) ∈ lw_all := lw_g (lw_at lw_m3 106 rfl) rfl
theorem q675 : (Jvm.Cond.classLink "QuarryOrders" (67 : Nat) "QuarryOrders$Order") ∈ lw_all := lw_g (lw_at lw_m3 107 rfl) rfl
theorem q676 : (Jvm.Cond.methodLink "QuarryOrders" (181 : Nat) ({ cls := "QuarryOrders$Sizes", name := "sorted", desc := "()LQuarryOrders$Sizes;" } : Jvm.MethodName)) ∈ lw_all := lw_g (lw_at lw_m3 108 rfl) rfl
theorem q682 : (Jvm.Cond.methodLink "QuarryOrders" (185 : Nat) ({ cls := "QuarryOrders$Order", name := "<init>", desc := "(LQuarryOrders$Sizes;)V" } : Jvm.MethodName)) ∈ lw_all := lw_g (lw_at lw_m3 114 rfl) rfl
theorem q684 : (Jvm.Cond.instanceMethod ({ cls := "QuarryOrders", name := "give", desc := "(II)I" } : Jvm.MethodName)) ∈ lw_all := lw_g (lw_at lw_m3 116 rfl) rfl
theorem q685 : (Jvm.Cond.selects "QuarryOrders" ({ cls := "QuarryOrders", name := "give", desc := "(II)I" } : Jvm.MethodName) ({ cls := "QuarryOrders", name := "give", desc := "(II)I" } : Jvm.MethodName)) ∈ lw_all := lw_g (lw_at lw_m3 117 rfl) rfl
theorem q686 : (Jvm.Cond.code ({ cls := "QuarryOrders", name := "give", desc := "(II)I" } : Jvm.MethodName) prog_1_method_28_code (3 : Nat) (Option.some Jvm.ClassFile.FieldType.int)) ∈ lw_all := lw_g (lw_at lw_m3 118 rfl) rfl
theorem q687 : (Jvm.Cond.methodLink "QuarryOrders" (198 : Nat) ({ cls := "QuarryOrders", name := "gives", desc := "(IIZ)I" } : Jvm.MethodName)) ∈ lw_all := lw_g (lw_at lw_m3 119 rfl) rfl
theorem q688 : (Jvm.Cond.privateMethod ({ cls := "QuarryOrders", name := "gives", desc := "(IIZ)I" } : Jvm.MethodName)) ∈ lw_tbl := lw_at lw_m3 120 rfl
theorem q689 : (Jvm.Cond.instanceMethod ({ cls := "QuarryOrders", name := "gives", desc := "(IIZ)I" } : Jvm.MethodName)) ∈ lw_all := lw_g (lw_at lw_m3 121 rfl) rfl
theorem q690 : (Jvm.Cond.code ({ cls := "QuarryOrders", name := "gives", desc := "(IIZ)I" } : Jvm.MethodName) prog_1_method_27_code (6 : Nat) (Option.some Jvm.ClassFile.FieldType.int)) ∈ lw_all := lw_g (lw_at lw_m3 122 rfl) rfl
theorem q691 : (Jvm.Cond.methodLink "QuarryOrders" (191 : Nat) ({ cls := "QuarryOrders", name := "whyNotGive", desc := "(II)I" } : Jvm.MethodName)) ∈ lw_all := lw_g (lw_at lw_m3 123 rfl) rfl
theorem q692 : (Jvm.Cond.privateMethod ({ cls := "QuarryOrders", name := "whyNotGive", desc := "(II)I" } : Jvm.MethodName)) ∈ lw_tbl := lw_at lw_m3 124 rfl
theorem q693 : (Jvm.Cond.instanceMethod ({ cls := "QuarryOrders", name := "whyNotGive", desc := "(II)I" } : Jvm.MethodName)) ∈ lw_all := lw_g (lw_at lw_m3 125 rfl) rfl
theorem q694 : (Jvm.Cond.code ({ cls := "QuarryOrders", name := "whyNotGive", desc := "(II)I" } : Jvm.MethodName) prog_1_method_15_code (3 : Nat) (Option.some Jvm.ClassFile.FieldType.int)) ∈ lw_all := lw_g (lw_at lw_m3 126 rfl) rfl
theorem q695 : (Jvm.Cond.methodLink "QuarryOrders" (110 : Nat) ({ cls := "QuarryOrders", name := "isOrder", desc := "(I)Z" } : Jvm.MethodName)) ∈ lw_all := lw_g (lw_at lw_m3 127 rfl) rfl
theorem q696 : (Jvm.Cond.privateMethod ({ cls := "QuarryOrders", name := "isOrder", desc := "(I)Z" } : Jvm.MethodName)) ∈ lw_tbl := lw_at lw_m3 128 rfl
theorem q697 : (Jvm.Cond.instanceMethod ({ cls := "QuarryOrders", name := "isOrder", desc := "(I)Z" } : Jvm.MethodName)) ∈ lw_all := lw_g (lw_at lw_m3 129 rfl) rfl
theorem q698 : (Jvm.Cond.code ({ cls := "QuarryOrders", name := "isOrder", desc := "(I)Z" } : Jvm.MethodName) prog_1_method_6_code (2 : Nat) (Option.some Jvm.ClassFile.FieldType.boolean)) ∈ lw_all := lw_g (lw_at lw_m3 130 rfl) rfl
theorem q699 : (Jvm.Cond.methodLink "QuarryOrders" (113 : Nat) ({ cls := "QuarryOrders", name := "orderAt", desc := "(I)LQuarryOrders$Order;" } : Jvm.MethodName)) ∈ lw_all := lw_g (lw_at lw_m3 131 rfl) rfl
theorem q700 : (Jvm.Cond.privateMethod ({ cls := "QuarryOrders", name := "orderAt", desc := "(I)LQuarryOrders$Order;" } : Jvm.MethodName)) ∈ lw_tbl := lw_at lw_m3 132 rfl
theorem q701 : (Jvm.Cond.instanceMethod ({ cls := "QuarryOrders", name := "orderAt", desc := "(I)LQuarryOrders$Order;" } : Jvm.MethodName)) ∈ lw_all := lw_g (lw_at lw_m3 133 rfl) rfl
theorem q702 : (Jvm.Cond.code ({ cls := "QuarryOrders", name := "orderAt", desc := "(I)LQuarryOrders$Order;" } : Jvm.MethodName) prog_1_method_9_code (2 : Nat) (Option.some (Jvm.ClassFile.FieldType.object "QuarryOrders$Order"))) ∈ lw_all := lw_g (lw_at lw_m3 134 rfl) rfl
theorem q703 : (Jvm.Cond.methodLink "QuarryOrders" (120 : Nat) ({ cls := "QuarryOrders$Quarry", name := "over", desc := "(LQuarryOrders$Order;LQuarryOrders$Block;)I" } : Jvm.MethodName)) ∈ lw_all := lw_g (lw_at lw_m3 135 rfl) rfl
theorem q719 : (Jvm.Cond.instanceMethod ({ cls := "QuarryOrders", name := "takeBack", desc := "(I)I" } : Jvm.MethodName)) ∈ lw_all := lw_g (lw_at lw_m3 151 rfl) rfl
theorem q720 : (Jvm.Cond.selects "QuarryOrders" ({ cls := "QuarryOrders", name := "takeBack", desc := "(I)I" } : Jvm.MethodName) ({ cls := "QuarryOrders", name := "takeBack", desc := "(I)I" } : Jvm.MethodName)) ∈ lw_all := lw_g (lw_at lw_m3 152 rfl) rfl
theorem q721 : (Jvm.Cond.code ({ cls := "QuarryOrders", name := "takeBack", desc := "(I)I" } : Jvm.MethodName) prog_1_method_29_code (5 : Nat) (Option.some Jvm.ClassFile.FieldType.int)) ∈ lw_all := lw_g (lw_at lw_m3 153 rfl) rfl
theorem q723 : (Jvm.Cond.instanceMethod ({ cls := "QuarryOrders", name := "limits", desc := "(IIII)I" } : Jvm.MethodName)) ∈ lw_all := lw_g (lw_at lw_m3 155 rfl) rfl
theorem q724 : (Jvm.Cond.selects "QuarryOrders" ({ cls := "QuarryOrders", name := "limits", desc := "(IIII)I" } : Jvm.MethodName) ({ cls := "QuarryOrders", name := "limits", desc := "(IIII)I" } : Jvm.MethodName)) ∈ lw_all := lw_g (lw_at lw_m3 156 rfl) rfl
theorem q725 : (Jvm.Cond.code ({ cls := "QuarryOrders", name := "limits", desc := "(IIII)I" } : Jvm.MethodName) prog_1_method_30_code (6 : Nat) (Option.some Jvm.ClassFile.FieldType.int)) ∈ lw_all := lw_g (lw_at lw_m3 157 rfl) rfl
theorem q726 : (Jvm.Cond.methodLink "QuarryOrders" (202 : Nat) ({ cls := "QuarryOrders", name := "whyNotLimits", desc := "(I[I)I" } : Jvm.MethodName)) ∈ lw_all := lw_g (lw_at lw_m3 158 rfl) rfl
theorem q727 : (Jvm.Cond.privateMethod ({ cls := "QuarryOrders", name := "whyNotLimits", desc := "(I[I)I" } : Jvm.MethodName)) ∈ lw_tbl := lw_at lw_m3 159 rfl
theorem q728 : (Jvm.Cond.instanceMethod ({ cls := "QuarryOrders", name := "whyNotLimits", desc := "(I[I)I" } : Jvm.MethodName)) ∈ lw_all := lw_g (lw_at lw_m3 160 rfl) rfl
theorem q729 : (Jvm.Cond.code ({ cls := "QuarryOrders", name := "whyNotLimits", desc := "(I[I)I" } : Jvm.MethodName) prog_1_method_16_code (8 : Nat) (Option.some Jvm.ClassFile.FieldType.int)) ∈ lw_all := lw_g (lw_at lw_m3 161 rfl) rfl
theorem q730 : (Jvm.Cond.methodLink "QuarryOrders" (124 : Nat) ({ cls := "QuarryOrders", name := "isLorry", desc := "(I)Z" } : Jvm.MethodName)) ∈ lw_all := lw_g (lw_at lw_m3 162 rfl) rfl
theorem q731 : (Jvm.Cond.static ({ cls := "QuarryOrders", name := "isLorry", desc := "(I)Z" } : Jvm.MethodName)) ∈ lw_all := lw_g (lw_at lw_m3 163 rfl) rfl
theorem q732 : (Jvm.Cond.code ({ cls := "QuarryOrders", name := "isLorry", desc := "(I)Z" } : Jvm.MethodName) prog_1_method_7_code (1 : Nat) (Option.some Jvm.ClassFile.FieldType.boolean)) ∈ lw_all := lw_g (lw_at lw_m3 164 rfl) rfl
theorem q734 : (Jvm.Cond.instanceMethod ({ cls := "QuarryOrders", name := "load", desc := "(III)I" } : Jvm.MethodName)) ∈ lw_all := lw_g (lw_at lw_m3 166 rfl) rfl
theorem q735 : (Jvm.Cond.selects "QuarryOrders" ({ cls := "QuarryOrders", name := "load", desc := "(III)I" } : Jvm.MethodName) ({ cls := "QuarryOrders", name := "load", desc := "(III)I" } : Jvm.MethodName)) ∈ lw_all := lw_g (lw_at lw_m3 167 rfl) rfl
theorem q736 : (Jvm.Cond.code ({ cls := "QuarryOrders", name := "load", desc := "(III)I" } : Jvm.MethodName) prog_1_method_32_code (4 : Nat) (Option.some Jvm.ClassFile.FieldType.int)) ∈ lw_all := lw_g (lw_at lw_m3 168 rfl) rfl
theorem q737 : (Jvm.Cond.methodLink "QuarryOrders" (223 : Nat) ({ cls := "QuarryOrders", name := "loads", desc := "(IIIZ)I" } : Jvm.MethodName)) ∈ lw_all := lw_g (lw_at lw_m3 169 rfl) rfl
theorem q738 : (Jvm.Cond.privateMethod ({ cls := "QuarryOrders", name := "loads", desc := "(IIIZ)I" } : Jvm.MethodName)) ∈ lw_tbl := lw_at lw_m3 170 rfl
theorem q739 : (Jvm.Cond.instanceMethod ({ cls := "QuarryOrders", name := "loads", desc := "(IIIZ)I" } : Jvm.MethodName)) ∈ lw_all := lw_g (lw_at lw_m3 171 rfl) rfl
theorem q740 : (Jvm.Cond.code ({ cls := "QuarryOrders", name := "loads", desc := "(IIIZ)I" } : Jvm.MethodName) prog_1_method_31_code (6 : Nat) (Option.some Jvm.ClassFile.FieldType.int)) ∈ lw_all := lw_g (lw_at lw_m3 172 rfl) rfl
theorem q741 : (Jvm.Cond.methodLink "QuarryOrders" (214 : Nat) ({ cls := "QuarryOrders", name := "whyNotLoad", desc := "(III)I" } : Jvm.MethodName)) ∈ lw_all := lw_g (lw_at lw_m3 173 rfl) rfl
theorem q742 : (Jvm.Cond.privateMethod ({ cls := "QuarryOrders", name := "whyNotLoad", desc := "(III)I" } : Jvm.MethodName)) ∈ lw_tbl := lw_at lw_m3 174 rfl
theorem q743 : (Jvm.Cond.instanceMethod ({ cls := "QuarryOrders", name := "whyNotLoad", desc := "(III)I" } : Jvm.MethodName)) ∈ lw_all := lw_g (lw_at lw_m3 175 rfl) rfl
theorem q744 : (Jvm.Cond.code ({ cls := "QuarryOrders", name := "whyNotLoad", desc := "(III)I" } : Jvm.MethodName) prog_1_method_17_code (4 : Nat) (Option.some Jvm.ClassFile.FieldType.int)) ∈ lw_all := lw_g (lw_at lw_m3 176 rfl) rfl
theorem q745 : (Jvm.Cond.methodLink "QuarryOrders" (127 : Nat) ({ cls := "QuarryOrders$Quarry", name := "on", desc := "(II)LQuarryOrders$Block;" } : Jvm.MethodName)) ∈ lw_all := lw_g (lw_at lw_m3 177 rfl) rfl
theorem q753 : (Jvm.Cond.methodLink "QuarryOrders" (220 : Nat) ({ cls := "QuarryOrders$Quarry", name := "loadOf", desc := "(I)I" } : Jvm.MethodName)) ∈ lw_all := lw_g (lw_at lw_m3 185 rfl) rfl
theorem q758 : (Jvm.Cond.instanceMethod ({ cls := "QuarryOrders", name := "unload", desc := "(I)I" } : Jvm.MethodName)) ∈ lw_all := lw_g (lw_at lw_m3 190 rfl) rfl
theorem q759 : (Jvm.Cond.selects "QuarryOrders" ({ cls := "QuarryOrders", name := "unload", desc := "(I)I" } : Jvm.MethodName) ({ cls := "QuarryOrders", name := "unload", desc := "(I)I" } : Jvm.MethodName)) ∈ lw_all := lw_g (lw_at lw_m3 191 rfl) rfl
theorem q760 : (Jvm.Cond.code ({ cls := "QuarryOrders", name := "unload", desc := "(I)I" } : Jvm.MethodName) prog_1_method_33_code (5 : Nat) (Option.some Jvm.ClassFile.FieldType.int)) ∈ lw_all := lw_g (lw_at lw_m3 192 rfl) rfl
theorem q762 : (Jvm.Cond.instanceMethod ({ cls := "QuarryOrders", name := "leave", desc := "(I)I" } : Jvm.MethodName)) ∈ lw_all := lw_g (lw_at lw_m3 194 rfl) rfl
theorem q763 : (Jvm.Cond.selects "QuarryOrders" ({ cls := "QuarryOrders", name := "leave", desc := "(I)I" } : Jvm.MethodName) ({ cls := "QuarryOrders", name := "leave", desc := "(I)I" } : Jvm.MethodName)) ∈ lw_all := lw_g (lw_at lw_m3 195 rfl) rfl
theorem q764 : (Jvm.Cond.code ({ cls := "QuarryOrders", name := "leave", desc := "(I)I" } : Jvm.MethodName) prog_1_method_35_code (2 : Nat) (Option.some Jvm.ClassFile.FieldType.int)) ∈ lw_all := lw_g (lw_at lw_m3 196 rfl) rfl
theorem q765 : (Jvm.Cond.methodLink "QuarryOrders" (232 : Nat) ({ cls := "QuarryOrders", name := "leaves", desc := "(IZ)I" } : Jvm.MethodName)) ∈ lw_all := lw_g (lw_at lw_m3 197 rfl) rfl
theorem q766 : (Jvm.Cond.privateMethod ({ cls := "QuarryOrders", name := "leaves", desc := "(IZ)I" } : Jvm.MethodName)) ∈ lw_tbl := lw_at lw_m3 198 rfl
theorem q767 : (Jvm.Cond.instanceMethod ({ cls := "QuarryOrders", name := "leaves", desc := "(IZ)I" } : Jvm.MethodName)) ∈ lw_all := lw_g (lw_at lw_m3 199 rfl) rfl
theorem q768 : (Jvm.Cond.code ({ cls := "QuarryOrders", name := "leaves", desc := "(IZ)I" } : Jvm.MethodName) prog_1_method_34_code (4 : Nat) (Option.some Jvm.ClassFile.FieldType.int)) ∈ lw_all := lw_g (lw_at lw_m3 200 rfl) rfl
theorem q769 : (Jvm.Cond.methodLink "QuarryOrders" (226 : Nat) ({ cls := "QuarryOrders$Quarry", name := "why", desc := "(I)I" } : Jvm.MethodName)) ∈ lw_all := lw_g (lw_at lw_m3 201 rfl) rfl
theorem q788 : (Jvm.Cond.methodLink "QuarryOrders" (229 : Nat) ({ cls := "QuarryOrders$Quarry", name := "leave", desc := "(I)I" } : Jvm.MethodName)) ∈ lw_all := lw_g (lw_at lw_m3 220 rfl) rfl
theorem q799 : (Jvm.Cond.instanceMethod ({ cls := "QuarryOrders", name := "night", desc := "(I)I" } : Jvm.MethodName)) ∈ lw_all := lw_g (lw_at lw_m3 231 rfl) rfl
theorem q800 : (Jvm.Cond.selects "QuarryOrders" ({ cls := "QuarryOrders", name := "night", desc := "(I)I" } : Jvm.MethodName) ({ cls := "QuarryOrders", name := "night", desc := "(I)I" } : Jvm.MethodName)) ∈ lw_all := lw_g (lw_at lw_m3 232 rfl) rfl
theorem q801 : (Jvm.Cond.code ({ cls := "QuarryOrders", name := "night", desc := "(I)I" } : Jvm.MethodName) prog_1_method_37_code (2 : Nat) (Option.some Jvm.ClassFile.FieldType.int)) ∈ lw_all := lw_g (lw_at lw_m3 233 rfl) rfl
theorem q802 : (Jvm.Cond.methodLink "QuarryOrders" (241 : Nat) ({ cls := "QuarryOrders", name := "passes", desc := "(IZ)I" } : Jvm.MethodName)) ∈ lw_all := lw_g (lw_at lw_m3 234 rfl) rfl
theorem q803 : (Jvm.Cond.privateMethod ({ cls := "QuarryOrders", name := "passes", desc := "(IZ)I" } : Jvm.MethodName)) ∈ lw_tbl := lw_at lw_m3 235 rfl
theorem q804 : (Jvm.Cond.instanceMethod ({ cls := "QuarryOrders", name := "passes", desc := "(IZ)I" } : Jvm.MethodName)) ∈ lw_all := lw_g (lw_at lw_m3 236 rfl) rfl
theorem q805 : (Jvm.Cond.code ({ cls := "QuarryOrders", name := "passes", desc := "(IZ)I" } : Jvm.MethodName) prog_1_method_36_code (4 : Nat) (Option.some Jvm.ClassFile.FieldType.int)) ∈ lw_all := lw_g (lw_at lw_m3 237 rfl) rfl
theorem q806 : (Jvm.Cond.methodLink "QuarryOrders" (235 : Nat) ({ cls := "QuarryOrders", name := "whyNotNight", desc := "(I)I" } : Jvm.MethodName)) ∈ lw_all := lw_g (lw_at lw_m3 238 rfl) rfl
theorem q807 : (Jvm.Cond.privateMethod ({ cls := "QuarryOrders", name := "whyNotNight", desc := "(I)I" } : Jvm.MethodName)) ∈ lw_tbl := lw_at lw_m3 239 rfl
theorem q808 : (Jvm.Cond.instanceMethod ({ cls := "QuarryOrders", name := "whyNotNight", desc := "(I)I" } : Jvm.MethodName)) ∈ lw_all := lw_g (lw_at lw_m4 0 rfl) rfl
theorem q809 : (Jvm.Cond.code ({ cls := "QuarryOrders", name := "whyNotNight", desc := "(I)I" } : Jvm.MethodName) prog_1_method_18_code (2 : Nat) (Option.some Jvm.ClassFile.FieldType.int)) ∈ lw_all := lw_g (lw_at lw_m4 1 rfl) rfl
theorem q810 : (Jvm.Cond.methodLink "QuarryOrders" (238 : Nat) ({ cls := "QuarryOrders$Quarry", name := "night", desc := "(I)I" } : Jvm.MethodName)) ∈ lw_all := lw_g (lw_at lw_m4 2 rfl) rfl
theorem q820 : (Jvm.Cond.instanceMethod ({ cls := "QuarryOrders", name := "of", desc := "(II)I" } : Jvm.MethodName)) ∈ lw_all := lw_g (lw_at lw_m4 12 rfl) rfl
theorem q821 : (Jvm.Cond.selects "QuarryOrders" ({ cls := "QuarryOrders", name := "of", desc := "(II)I" } : Jvm.MethodName) ({ cls := "QuarryOrders", name := "of", desc := "(II)I" } : Jvm.MethodName)) ∈ lw_all := lw_g (lw_at lw_m4 13 rfl) rfl
theorem q822 : (Jvm.Cond.code ({ cls := "QuarryOrders", name := "of", desc := "(II)I" } : Jvm.MethodName) prog_1_method_38_code (4 : Nat) (Option.some Jvm.ClassFile.FieldType.int)) ∈ lw_all := lw_g (lw_at lw_m4 14 rfl) rfl
theorem q823 : (Jvm.Cond.methodLink "QuarryOrders" (248 : Nat) ({ cls := "QuarryOrders$Sizes", name := "of", desc := "(I)I" } : Jvm.MethodName)) ∈ lw_all := lw_g (lw_at lw_m4 15 rfl) rfl
theorem q824 : (Jvm.Cond.methodLink "QuarryOrders" (254 : Nat) ({ cls := "QuarryOrders$Block", name := "weight", desc := "()I" } : Jvm.MethodName)) ∈ lw_all := lw_g (lw_at lw_m4 16 rfl) rfl
theorem q826 : (Jvm.Cond.instanceMethod ({ cls := "QuarryOrders", name := "ofOrder", desc := "(II)I" } : Jvm.MethodName)) ∈ lw_all := lw_g (lw_at lw_m4 18 rfl) rfl
theorem q827 : (Jvm.Cond.selects "QuarryOrders" ({ cls := "QuarryOrders", name := "ofOrder", desc := "(II)I" } : Jvm.MethodName) ({ cls := "QuarryOrders", name := "ofOrder", desc := "(II)I" } : Jvm.MethodName)) ∈ lw_all := lw_g (lw_at lw_m4 19 rfl) rfl
theorem q828 : (Jvm.Cond.code ({ cls := "QuarryOrders", name := "ofOrder", desc := "(II)I" } : Jvm.MethodName) prog_1_method_39_code (4 : Nat) (Option.some Jvm.ClassFile.FieldType.int)) ∈ lw_all := lw_g (lw_at lw_m4 20 rfl) rfl
theorem q829 : (Jvm.Cond.methodLink "QuarryOrders" (270 : Nat) ({ cls := "QuarryOrders$Quarry", name := "fitting", desc := "(LQuarryOrders$Order;)I" } : Jvm.MethodName)) ∈ lw_all := lw_g (lw_at lw_m4 21 rfl) rfl
theorem q835 : (Jvm.Cond.instanceMethod ({ cls := "QuarryOrders", name := "ofLorry", desc := "(II)I" } : Jvm.MethodName)) ∈ lw_all := lw_g (lw_at lw_m4 27 rfl) rfl
theorem q836 : (Jvm.Cond.selects "QuarryOrders" ({ cls := "QuarryOrders", name := "ofLorry", desc := "(II)I" } : Jvm.MethodName) ({ cls := "QuarryOrders", name := "ofLorry", desc := "(II)I" } : Jvm.MethodName)) ∈ lw_all := lw_g (lw_at lw_m4 28 rfl) rfl
theorem q837 : (Jvm.Cond.code ({ cls := "QuarryOrders", name := "ofLorry", desc := "(II)I" } : Jvm.MethodName) prog_1_method_40_code (3 : Nat) (Option.some Jvm.ClassFile.FieldType.int)) ∈ lw_all := lw_g (lw_at lw_m4 29 rfl) rfl
theorem q838 : (Jvm.Cond.methodLink "QuarryOrders" (274 : Nat) ({ cls := "QuarryOrders$Quarry", name := "axle", desc := "(IZLQuarryOrders$Block;I)F" } : Jvm.MethodName)) ∈ lw_all := lw_g (lw_at lw_m4 30 rfl) rfl
theorem q839 : (Jvm.Cond.methodLink "QuarryOrders" (278 : Nat) ({ cls := "java/lang/Float", name := "floatToIntBits", desc := "(F)I" } : Jvm.MethodName)) ∈ lw_all := lw_g (lw_at lw_m4 31 rfl) rfl
theorem q849 : (Jvm.Cond.methodLink "QuarryOrders" (284 : Nat) ({ cls := "QuarryOrders$Quarry", name := "blocksOn", desc := "(I)I" } : Jvm.MethodName)) ∈ lw_all := lw_g (lw_at lw_m4 41 rfl) rfl
theorem q851 : (Jvm.Cond.instanceMethod ({ cls := "QuarryOrders", name := "count", desc := "(I)I" } : Jvm.MethodName)) ∈ lw_all := lw_g (lw_at lw_m4 43 rfl) rfl
theorem q852 : (Jvm.Cond.selects "QuarryOrders" ({ cls := "QuarryOrders", name := "count", desc := "(I)I" } : Jvm.MethodName) ({ cls := "QuarryOrders", name := "count", desc := "(I)I" } : Jvm.MethodName)) ∈ lw_all := lw_g (lw_at lw_m4 44 rfl) rfl
theorem q853 : (Jvm.Cond.code ({ cls := "QuarryOrders", name := "count", desc := "(I)I" } : Jvm.MethodName) prog_1_method_41_code (2 : Nat) (Option.some Jvm.ClassFile.FieldType.int)) ∈ lw_all := lw_g (lw_at lw_m4 45 rfl) rfl
theorem q854 : (Jvm.Cond.methodLink "QuarryOrders" (290 : Nat) ({ cls := "QuarryOrders$Quarry", name := "in", desc := "(I)I" } : Jvm.MethodName)) ∈ lw_all := lw_g (lw_at lw_m4 46 rfl) rfl
theorem q855 : (Jvm.Cond.methodLink "QuarryOrders" (293 : Nat) ({ cls := "QuarryOrders$Quarry", name := "cracked", desc := "()I" } : Jvm.MethodName)) ∈ lw_all := lw_g (lw_at lw_m4 47 rfl) rfl
theorem q859 : (Jvm.Cond.methodLink "QuarryOrders" (298 : Nat) ({ cls := "QuarryOrders$Quarry", name := "uncut", desc := "(Z)I" } : Jvm.MethodName)) ∈ lw_all := lw_g (lw_at lw_m4 51 rfl) rfl
theorem q863 : (Jvm.Cond.methodLink "QuarryOrders" (311 : Nat) ({ cls := "java/lang/StringBuilder", name := "length", desc := "()I" } : Jvm.MethodName)) ∈ lw_all := lw_g (lw_at lw_m4 55 rfl) rfl
theorem q871 : (Jvm.Cond.instanceMethod ({ cls := "QuarryOrders", name := "meanWeight", desc := "()J" } : Jvm.MethodName)) ∈ lw_all := lw_g (lw_at lw_m4 63 rfl) rfl
theorem q872 : (Jvm.Cond.selects "QuarryOrders" ({ cls := "QuarryOrders", name := "meanWeight", desc := "()J" } : Jvm.MethodName) ({ cls := "QuarryOrders", name := "meanWeight", desc := "()J" } : Jvm.MethodName)) ∈ lw_all := lw_g (lw_at lw_m4 64 rfl) rfl
theorem q873 : (Jvm.Cond.code ({ cls := "QuarryOrders", name := "meanWeight", desc := "()J" } : Jvm.MethodName) prog_1_method_42_code (2 : Nat) (Option.some Jvm.ClassFile.FieldType.long)) ∈ lw_all := lw_g (lw_at lw_m4 65 rfl) rfl
theorem q874 : (Jvm.Cond.methodLink "QuarryOrders" (314 : Nat) ({ cls := "java/lang/Double", name := "doubleToLongBits", desc := "(D)J" } : Jvm.MethodName)) ∈ lw_all := lw_g (lw_at lw_m4 66 rfl) rfl
theorem q885 : (Jvm.Cond.instanceMethod ({ cls := "QuarryOrders", name := "why", desc := "(I)I" } : Jvm.MethodName)) ∈ lw_all := lw_g (lw_at lw_m4 77 rfl) rfl
theorem q886 : (Jvm.Cond.selects "QuarryOrders" ({ cls := "QuarryOrders", name := "why", desc := "(I)I" } : Jvm.MethodName) ({ cls := "QuarryOrders", name := "why", desc := "(I)I" } : Jvm.MethodName)) ∈ lw_all := lw_g (lw_at lw_m4 78 rfl) rfl
theorem q887 : (Jvm.Cond.code ({ cls := "QuarryOrders", name := "why", desc := "(I)I" } : Jvm.MethodName) prog_1_method_43_code (2 : Nat) (Option.some Jvm.ClassFile.FieldType.int)) ∈ lw_all := lw_g (lw_at lw_m4 79 rfl) rfl
theorem q889 : (Jvm.Cond.instanceMethod ({ cls := "QuarryOrders", name := "bestBlock", desc := "(I)I" } : Jvm.MethodName)) ∈ lw_all := lw_g (lw_at lw_m4 81 rfl) rfl
theorem q890 : (Jvm.Cond.selects "QuarryOrders" ({ cls := "QuarryOrders", name := "bestBlock", desc := "(I)I" } : Jvm.MethodName) ({ cls := "QuarryOrders", name := "bestBlock", desc := "(I)I" } : Jvm.MethodName)) ∈ lw_all := lw_g (lw_at lw_m4 82 rfl) rfl
theorem q891 : (Jvm.Cond.code ({ cls := "QuarryOrders", name := "bestBlock", desc := "(I)I" } : Jvm.MethodName) prog_1_method_44_code (2 : Nat) (Option.some Jvm.ClassFile.FieldType.int)) ∈ lw_all := lw_g (lw_at lw_m4 83 rfl) rfl
theorem q892 : (Jvm.Cond.methodLink "QuarryOrders" (320 : Nat) ({ cls := "QuarryOrders$Quarry", name := "bestBlock", desc := "(LQuarryOrders$Order;)I" } : Jvm.MethodName)) ∈ lw_all := lw_g (lw_at lw_m4 84 rfl) rfl
theorem q897 : (Jvm.Cond.instanceMethod ({ cls := "QuarryOrders", name := "fittingCut", desc := "(III)I" } : Jvm.MethodName)) ∈ lw_all := lw_g (lw_at lw_m4 89 rfl) rfl
theorem q898 : (Jvm.Cond.selects "QuarryOrders" ({ cls := "QuarryOrders", name := "fittingCut", desc := "(III)I" } : Jvm.MethodName) ({ cls := "QuarryOrders", name := "fittingCut", desc := "(III)I" } : Jvm.MethodName)) ∈ lw_all := lw_g (lw_at lw_m4 90 rfl) rfl
theorem q899 : (Jvm.Cond.code ({ cls := "QuarryOrders", name := "fittingCut", desc := "(III)I" } : Jvm.MethodName) prog_1_method_46_code (6 : Nat) (Option.some Jvm.ClassFile.FieldType.int)) ∈ lw_all := lw_g (lw_at lw_m4 91 rfl) rfl
theorem q900 : (Jvm.Cond.methodLink "QuarryOrders" (329 : Nat) ({ cls := "QuarryOrders", name := "fits", desc := "(LQuarryOrders$Order;LQuarryOrders$Block;II)Z" } : Jvm.MethodName)) ∈ lw_all := lw_g (lw_at lw_m4 92 rfl) rfl
theorem q901 : (Jvm.Cond.privateMethod ({ cls := "QuarryOrders", name := "fits", desc := "(LQuarryOrders$Order;LQuarryOrders$Block;II)Z" } : Jvm.MethodName)) ∈ lw_tbl := lw_at lw_m4 93 rfl
theorem q902 : (Jvm.Cond.instanceMethod ({ cls := "QuarryOrders", name := "fits", desc := "(LQuarryOrders$Order;LQuarryOrders$Block;II)Z" } : Jvm.MethodName)) ∈ lw_all := lw_g (lw_at lw_m4 94 rfl) rfl
theorem q903 : (Jvm.Cond.code ({ cls := "QuarryOrders", name := "fits", desc := "(LQuarryOrders$Order;LQuarryOrders$Block;II)Z" } : Jvm.MethodName) prog_1_method_45_code (6 : Nat) (Option.some Jvm.ClassFile.FieldType.boolean)) ∈ lw_all := lw_g (lw_at lw_m4 95 rfl) rfl
theorem q904 : (Jvm.Cond.methodLink "QuarryOrders" (323 : Nat) ({ cls := "QuarryOrders$Sizes", name := "with", desc := "(II)LQuarryOrders$Sizes;" } : Jvm.MethodName)) ∈ lw_all := lw_g (lw_at lw_m4 96 rfl) rfl
theorem q905 : (Jvm.Cond.methodLink "QuarryOrders" (327 : Nat) ({ cls := "QuarryOrders$Sizes", name := "over", desc := "(LQuarryOrders$Sizes;I)I" } : Jvm.MethodName)) ∈ lw_all := lw_g (lw_at lw_m4 97 rfl) rfl
theorem q907 : (Jvm.Cond.instanceMethod ({ cls := "QuarryOrders", name := "ifFrost", desc := "()I" } : Jvm.MethodName)) ∈ lw_all := lw_g (lw_at lw_m4 99 rfl) rfl
theorem q908 : (Jvm.Cond.selects "QuarryOrders" ({ cls := "QuarryOrders", name := "ifFrost", desc := "()I" } : Jvm.MethodName) ({ cls := "QuarryOrders", name := "ifFrost", desc := "()I" } : Jvm.MethodName)) ∈ lw_all := lw_g (lw_at lw_m4 100 rfl) rfl
theorem q909 : (Jvm.Cond.code ({ cls := "QuarryOrders", name := "ifFrost", desc := "()I" } : Jvm.MethodName) prog_1_method_47_code (4 : Nat) (Option.some Jvm.ClassFile.FieldType.int)) ∈ lw_all := lw_g (lw_at lw_m4 101 rfl) rfl
theorem q910 : (Jvm.Cond.interfaceEntry "QuarryOrders" (333 : Nat)) ∈ lw_tbl := lw_at lw_m4 102 rfl
theorem q911 : (Jvm.Cond.methodLink "QuarryOrders" (333 : Nat) ({ cls := "java/util/List", name := "iterator", desc := "()Ljava/util/Iterator;" } : Jvm.MethodName)) ∈ lw_all := lw_g (lw_at lw_m4 103 rfl) rfl
theorem q912 : (Jvm.Cond.interfaceEntry "QuarryOrders" (337 : Nat)) ∈ lw_tbl := lw_at lw_m4 104 rfl
theorem q913 : (Jvm.Cond.methodLink "QuarryOrders" (337 : Nat) ({ cls := "java/util/Iterator", name := "hasNext", desc := "()Z" } : Jvm.MethodName)) ∈ lw_all := lw_g (lw_at lw_m4 105 rfl) rfl
theorem q914 : (Jvm.Cond.interfaceEntry "QuarryOrders" (342 : Nat)) ∈ lw_tbl := lw_at lw_m4 106 rfl
theorem q915 : (Jvm.Cond.methodLink "QuarryOrders" (342 : Nat) ({ cls := "java/util/Iterator", name := "next", desc := "()Ljava/lang/Object;" } : Jvm.MethodName)) ∈ lw_all := lw_g (lw_at lw_m4 107 rfl) rfl
theorem q916 : (Jvm.Cond.methodLink "QuarryOrders" (346 : Nat) ({ cls := "QuarryOrders$Quarry", name := "isCracking", desc := "(LQuarryOrders$Block;)Z" } : Jvm.MethodName)) ∈ lw_all := lw_g (lw_at lw_m4 108 rfl) rfl
theorem q918 : (Jvm.Cond.instanceMethod ({ cls := "QuarryOrders", name := "bestPlace", desc := "(II)I" } : Jvm.MethodName)) ∈ lw_all := lw_g (lw_at lw_m4 110 rfl) rfl
theorem q919 : (Jvm.Cond.selects "QuarryOrders" ({ cls := "QuarryOrders", name := "bestPlace", desc := "(II)I" } : Jvm.MethodName) ({ cls := "QuarryOrders", name := "bestPlace", desc := "(II)I" } : Jvm.MethodName)) ∈ lw_all := lw_g (lw_at lw_m4 111 rfl) rfl
theorem q920 : (Jvm.Cond.code ({ cls := "QuarryOrders", name := "bestPlace", desc := "(II)I" } : Jvm.MethodName) prog_1_method_48_code (11 : Nat) (Option.some Jvm.ClassFile.FieldType.int)) ∈ lw_all := lw_g (lw_at lw_m4 112 rfl) rfl
theorem q922 : (Jvm.Cond.instanceMethod ({ cls := "QuarryOrders", name := "put", desc := "(J)I" } : Jvm.MethodName)) ∈ lw_all := lw_g (lw_at lw_m4 114 rfl) rfl
theorem q923 : (Jvm.Cond.selects "QuarryOrders" ({ cls := "QuarryOrders", name := "put", desc := "(J)I" } : Jvm.MethodName) ({ cls := "QuarryOrders", name := "put", desc := "(J)I" } : Jvm.MethodName)) ∈ lw_all := lw_g (lw_at lw_m4 115 rfl) rfl
theorem q924 : (Jvm.Cond.code ({ cls := "QuarryOrders", name := "put", desc := "(J)I" } : Jvm.MethodName) prog_1_method_49_code (7 : Nat) (Option.some Jvm.ClassFile.FieldType.int)) ∈ lw_all := lw_g (lw_at lw_m4 116 rfl) rfl
theorem q925 : (Jvm.Cond.constantLong "QuarryOrders" (352 : Nat) (255 : Int64)) ∈ lw_all := lw_g (lw_at lw_m4 117 rfl) rfl
theorem q926 : (Jvm.Cond.methodLink "QuarryOrders" (354 : Nat) ({ cls := "java/lang/StringBuilder", name := "append", desc := "(C)Ljava/lang/StringBuilder;" } : Jvm.MethodName)) ∈ lw_all := lw_g (lw_at lw_m4 118 rfl) rfl
theorem q1003 : (Jvm.Cond.instanceMethod ({ cls := "QuarryOrders", name := "wipe", desc := "()I" } : Jvm.MethodName)) ∈ lw_all := lw_g (lw_at lw_m4 195 rfl) rfl
theorem q1004 : (Jvm.Cond.selects "QuarryOrders" ({ cls := "QuarryOrders", name := "wipe", desc := "()I" } : Jvm.MethodName) ({ cls := "QuarryOrders", name := "wipe", desc := "()I" } : Jvm.MethodName)) ∈ lw_all := lw_g (lw_at lw_m4 196 rfl) rfl
theorem q1005 : (Jvm.Cond.code ({ cls := "QuarryOrders", name := "wipe", desc := "()I" } : Jvm.MethodName) prog_1_method_50_code (2 : Nat) (Option.some Jvm.ClassFile.FieldType.int)) ∈ lw_all := lw_g (lw_at lw_m4 197 rfl) rfl
theorem q1006 : (Jvm.Cond.methodLink "QuarryOrders" (358 : Nat) ({ cls := "java/lang/StringBuilder", name := "setLength", desc := "(I)V" } : Jvm.MethodName)) ∈ lw_all := lw_g (lw_at lw_m4 198 rfl) rfl
theorem q1027 : (Jvm.Cond.instanceMethod ({ cls := "QuarryOrders", name := "fault", desc := "()I" } : Jvm.MethodName)) ∈ lw_all := lw_g (lw_at lw_m4 219 rfl) rfl
theorem q1028 : (Jvm.Cond.selects "QuarryOrders" ({ cls := "QuarryOrders", name := "fault", desc := "()I" } : Jvm.MethodName) ({ cls := "QuarryOrders", name := "fault", desc := "()I" } : Jvm.MethodName)) ∈ lw_all := lw_g (lw_at lw_m4 220 rfl) rfl
theorem q1029 : (Jvm.Cond.code ({ cls := "QuarryOrders", name := "fault", desc := "()I" } : Jvm.MethodName) prog_1_method_51_code (2 : Nat) (Option.some Jvm.ClassFile.FieldType.int)) ∈ lw_all := lw_g (lw_at lw_m4 221 rfl) rfl
theorem q1030 : (Jvm.Cond.classLink "QuarryOrders" (362 : Nat) "QuarryOrders$Reader") ∈ lw_all := lw_g (lw_at lw_m4 222 rfl) rfl
theorem q1032 : (Jvm.Cond.methodLink "QuarryOrders" (364 : Nat) ({ cls := "QuarryOrders$Reader", name := "<init>", desc := "(LQuarryOrders;)V" } : Jvm.MethodName)) ∈ lw_all := lw_g (lw_at lw_m4 224 rfl) rfl
theorem q1176 : (Jvm.Cond.fieldLinkNest "QuarryOrders" (373 : Nat) "QuarryOrders$Reader" "orders" "Ljava/util/List;" "QuarryOrders") ∈ lw_tbl := lw_at lw_m5 128 rfl
theorem q1178 : (Jvm.Cond.fieldLinkNest "QuarryOrders" (370 : Nat) "QuarryOrders$Reader" "spot" "I" "QuarryOrders") ∈ lw_tbl := lw_at lw_m5 130 rfl
theorem q1180 : (Jvm.Cond.fieldLinkNest "QuarryOrders" (367 : Nat) "QuarryOrders$Reader" "isWrong" "Z" "QuarryOrders") ∈ lw_tbl := lw_at lw_m5 132 rfl
theorem q1192 : (Jvm.Cond.instanceMethod ({ cls := "QuarryOrders", name := "carryOut", desc := "()I" } : Jvm.MethodName)) ∈ lw_all := lw_g (lw_at lw_m5 144 rfl) rfl
theorem q1193 : (Jvm.Cond.selects "QuarryOrders" ({ cls := "QuarryOrders", name := "carryOut", desc := "()I" } : Jvm.MethodName) ({ cls := "QuarryOrders", name := "carryOut", desc := "()I" } : Jvm.MethodName)) ∈ lw_all := lw_g (lw_at lw_m5 145 rfl) rfl
theorem q1194 : (Jvm.Cond.code ({ cls := "QuarryOrders", name := "carryOut", desc := "()I" } : Jvm.MethodName) prog_1_method_53_code (3 : Nat) (Option.some Jvm.ClassFile.FieldType.int)) ∈ lw_all := lw_g (lw_at lw_m5 146 rfl) rfl
theorem q1195 : (Jvm.Cond.classLink "QuarryOrders" (374 : Nat) "[I") ∈ lw_all := lw_g (lw_at lw_m5 147 rfl) rfl
theorem q1196 : (Jvm.Cond.methodLink "QuarryOrders" (375 : Nat) ({ cls := "QuarryOrders", name := "doIt", desc := "([I)I" } : Jvm.MethodName)) ∈ lw_all := lw_g (lw_at lw_m5 148 rfl) rfl
theorem q1197 : (Jvm.Cond.privateMethod ({ cls := "QuarryOrders", name := "doIt", desc := "([I)I" } : Jvm.MethodName)) ∈ lw_tbl := lw_at lw_m5 149 rfl
theorem q1198 : (Jvm.Cond.instanceMethod ({ cls := "QuarryOrders", name := "doIt", desc := "([I)I" } : Jvm.MethodName)) ∈ lw_all := lw_g (lw_at lw_m5 150 rfl) rfl
theorem q1199 : (Jvm.Cond.code ({ cls := "QuarryOrders", name := "doIt", desc := "([I)I" } : Jvm.MethodName) prog_1_method_52_code (2 : Nat) (Option.some Jvm.ClassFile.FieldType.int)) ∈ lw_all := lw_g (lw_at lw_m5 151 rfl) rfl
theorem q1201 : (Jvm.Cond.instanceMethod ({ cls := "QuarryOrders", name := "undo", desc := "()I" } : Jvm.MethodName)) ∈ lw_all := lw_g (lw_at lw_m5 153 rfl) rfl
theorem q1202 : (Jvm.Cond.selects "QuarryOrders" ({ cls := "QuarryOrders", name := "undo", desc := "()I" } : Jvm.MethodName) ({ cls := "QuarryOrders", name := "undo", desc := "()I" } : Jvm.MethodName)) ∈ lw_all := lw_g (lw_at lw_m5 154 rfl) rfl
theorem q1203 : (Jvm.Cond.code ({ cls := "QuarryOrders", name := "undo", desc := "()I" } : Jvm.MethodName) prog_1_method_54_code (1 : Nat) (Option.some Jvm.ClassFile.FieldType.int)) ∈ lw_all := lw_g (lw_at lw_m5 155 rfl) rfl
theorem q1204 : (Jvm.Cond.interfaceEntry "QuarryOrders" (379 : Nat)) ∈ lw_tbl := lw_at lw_m5 156 rfl
theorem q1205 : (Jvm.Cond.methodLink "QuarryOrders" (379 : Nat) ({ cls := "java/util/List", name := "isEmpty", desc := "()Z" } : Jvm.MethodName)) ∈ lw_all := lw_g (lw_at lw_m5 157 rfl) rfl
theorem q1214 : (Jvm.Cond.instanceMethod ({ cls := "QuarryOrders", name := "save", desc := "(I)I" } : Jvm.MethodName)) ∈ lw_all := lw_g (lw_at lw_m5 166 rfl) rfl
theorem q1215 : (Jvm.Cond.selects "QuarryOrders" ({ cls := "QuarryOrders", name := "save", desc := "(I)I" } : Jvm.MethodName) ({ cls := "QuarryOrders", name := "save", desc := "(I)I" } : Jvm.MethodName)) ∈ lw_all := lw_g (lw_at lw_m5 167 rfl) rfl
theorem q1216 : (Jvm.Cond.code ({ cls := "QuarryOrders", name := "save", desc := "(I)I" } : Jvm.MethodName) prog_1_method_55_code (2 : Nat) (Option.some Jvm.ClassFile.FieldType.int)) ∈ lw_all := lw_g (lw_at lw_m5 168 rfl) rfl
theorem q1218 : (Jvm.Cond.instanceMethod ({ cls := "QuarryOrders", name := "restore", desc := "(I)I" } : Jvm.MethodName)) ∈ lw_all := lw_g (lw_at lw_m5 170 rfl) rfl
theorem q1219 : (Jvm.Cond.selects "QuarryOrders" ({ cls := "QuarryOrders", name := "restore", desc := "(I)I" } : Jvm.MethodName) ({ cls := "QuarryOrders", name := "restore", desc := "(I)I" } : Jvm.MethodName)) ∈ lw_all := lw_g (lw_at lw_m5 171 rfl) rfl
theorem q1220 : (Jvm.Cond.code ({ cls := "QuarryOrders", name := "restore", desc := "(I)I" } : Jvm.MethodName) prog_1_method_56_code (2 : Nat) (Option.some Jvm.ClassFile.FieldType.int)) ∈ lw_all := lw_g (lw_at lw_m5 172 rfl) rfl
theorem q1605 : (Jvm.Cond.castable "QuarryOrders" "java/lang/Object") ∈ lw_tbl := lw_at lw_m7 77 rfl
theorem in_X0 : ∀ w ∈ wsX00, w ∈ lw_all := lw_in wsX00 [266, 268, 270, 272] (by decide +kernel) (by decide +kernel)
