-- ===== PART A: goes FIRST, ahead of the names: the tables' words, and 'selects' of the private methods out of them =====
/-- a private method of a class that the tables say can be made, by its rows of tables_1 -/
def lw_okq (q : MethodName × Nat) : Prop := (q.1.cls ≠ "java/lang/invoke/MethodHandle" ∧ q.1.cls ≠ "java/lang/invoke/VarHandle") ∧ Cond.instantiable q.1.cls q.2 ∈ tables_1 ∧ Cond.privateMethod q.1 ∈ tables_1 ∧ Cond.instanceMethod q.1 ∈ tables_1
set_option maxRecDepth 100000
theorem lw_t1 {w : Cond} (h : w ∈ tables_1_1) : w ∈ tables_1 := List.mem_append_left _ h
theorem lw_t2 {w : Cond} (h : w ∈ tables_1_2) : w ∈ tables_1 := List.mem_append_right _ (List.mem_append_left _ h)
theorem lw_t3 {w : Cond} (h : w ∈ tables_1_3) : w ∈ tables_1 := List.mem_append_right _ (List.mem_append_right _ (List.mem_append_left _ h))
theorem lw_t4 {w : Cond} (h : w ∈ tables_1_4) : w ∈ tables_1 := List.mem_append_right _ (List.mem_append_right _ (List.mem_append_right _ (List.mem_append_left _ h)))
theorem lw_t5 {w : Cond} (h : w ∈ tables_1_5) : w ∈ tables_1 := List.mem_append_right _ (List.mem_append_right _ (List.mem_append_right _ (List.mem_append_right _ (List.mem_append_left _ h))))
theorem lw_t6 {w : Cond} (h : w ∈ tables_1_6) : w ∈ tables_1 := List.mem_append_right _ (List.mem_append_right _ (List.mem_append_right _ (List.mem_append_right _ (List.mem_append_right _ (List.mem_append_left _ h)))))
theorem lw_t7 {w : Cond} (h : w ∈ tables_1_7) : w ∈ tables_1 := List.mem_append_right _ (List.mem_append_right _ (List.mem_append_right _ (List.mem_append_right _ (List.mem_append_right _ (List.mem_append_right _ h)))))
theorem lw_p0 : lw_okq (⟨"QuarryOrders", "begun", "(IZ)I"⟩, 4) := ⟨⟨by decide +kernel, by decide +kernel⟩, lw_t1 (List.mem_of_getElem? (i := 30) rfl), lw_t1 (List.mem_of_getElem? (i := 199) rfl), lw_t1 (List.mem_of_getElem? (i := 200) rfl)⟩
theorem lw_p1 : lw_okq (⟨"QuarryOrders", "record", "()V"⟩, 4) := ⟨⟨by decide +kernel, by decide +kernel⟩, lw_t1 (List.mem_of_getElem? (i := 30) rfl), lw_t1 (List.mem_of_getElem? (i := 203) rfl), lw_t1 (List.mem_of_getElem? (i := 204) rfl)⟩
theorem lw_p2 : lw_okq (⟨"java/util/ArrayList", "fastRemove", "([Ljava/lang/Object;I)V"⟩, 3) := ⟨⟨by decide +kernel, by decide +kernel⟩, lw_t1 (List.mem_of_getElem? (i := 56) rfl), lw_t1 (List.mem_of_getElem? (i := 232) rfl), lw_t1 (List.mem_of_getElem? (i := 233) rfl)⟩
theorem lw_p3 : lw_okq (⟨"java/util/ArrayList", "add", "(Ljava/lang/Object;[Ljava/lang/Object;I)V"⟩, 3) := ⟨⟨by decide +kernel, by decide +kernel⟩, lw_t1 (List.mem_of_getElem? (i := 56) rfl), lw_t2 (List.mem_of_getElem? (i := 119) rfl), lw_t2 (List.mem_of_getElem? (i := 120) rfl)⟩
theorem lw_p4 : lw_okq (⟨"java/util/ArrayList", "grow", "()[Ljava/lang/Object;"⟩, 3) := ⟨⟨by decide +kernel, by decide +kernel⟩, lw_t1 (List.mem_of_getElem? (i := 56) rfl), lw_t2 (List.mem_of_getElem? (i := 123) rfl), lw_t2 (List.mem_of_getElem? (i := 124) rfl)⟩
theorem lw_p5 : lw_okq (⟨"java/util/ArrayList", "grow", "(I)[Ljava/lang/Object;"⟩, 3) := ⟨⟨by decide +kernel, by decide +kernel⟩, lw_t1 (List.mem_of_getElem? (i := 56) rfl), lw_t2 (List.mem_of_getElem? (i := 127) rfl), lw_t2 (List.mem_of_getElem? (i := 128) rfl)⟩
theorem lw_p6 : lw_okq (⟨"QuarryOrders", "quarries", "(ZI[I)I"⟩, 4) := ⟨⟨by decide +kernel, by decide +kernel⟩, lw_t1 (List.mem_of_getElem? (i := 30) rfl), lw_t2 (List.mem_of_getElem? (i := 205) rfl), lw_t2 (List.mem_of_getElem? (i := 206) rfl)⟩
theorem lw_p7 : lw_okq (⟨"QuarryOrders", "whyNotQuarry", "(I[I)I"⟩, 4) := ⟨⟨by decide +kernel, by decide +kernel⟩, lw_t1 (List.mem_of_getElem? (i := 30) rfl), lw_t2 (List.mem_of_getElem? (i := 209) rfl), lw_t2 (List.mem_of_getElem? (i := 210) rfl)⟩
theorem lw_p8 : lw_okq (⟨"QuarryOrders", "cuts", "(IIIZ)I"⟩, 4) := ⟨⟨by decide +kernel, by decide +kernel⟩, lw_t1 (List.mem_of_getElem? (i := 30) rfl), lw_t3 (List.mem_of_getElem? (i := 16) rfl), lw_t3 (List.mem_of_getElem? (i := 17) rfl)⟩
theorem lw_p9 : lw_okq (⟨"QuarryOrders", "whyNotCut", "(III)I"⟩, 4) := ⟨⟨by decide +kernel, by decide +kernel⟩, lw_t1 (List.mem_of_getElem? (i := 30) rfl), lw_t3 (List.mem_of_getElem? (i := 20) rfl), lw_t3 (List.mem_of_getElem? (i := 21) rfl)⟩
theorem lw_p10 : lw_okq (⟨"QuarryOrders", "isBlock", "(I)Z"⟩, 4) := ⟨⟨by decide +kernel, by decide +kernel⟩, lw_t1 (List.mem_of_getElem? (i := 30) rfl), lw_t3 (List.mem_of_getElem? (i := 24) rfl), lw_t3 (List.mem_of_getElem? (i := 25) rfl)⟩
theorem lw_p11 : lw_okq (⟨"QuarryOrders", "blockAt", "(I)LQuarryOrders$Block;"⟩, 4) := ⟨⟨by decide +kernel, by decide +kernel⟩, lw_t1 (List.mem_of_getElem? (i := 30) rfl), lw_t3 (List.mem_of_getElem? (i := 28) rfl), lw_t3 (List.mem_of_getElem? (i := 29) rfl)⟩
theorem lw_p12 : lw_okq (⟨"QuarryOrders", "canBeCut", "(LQuarryOrders$Block;)Z"⟩, 4) := ⟨⟨by decide +kernel, by decide +kernel⟩, lw_t1 (List.mem_of_getElem? (i := 30) rfl), lw_t3 (List.mem_of_getElem? (i := 46) rfl), lw_t3 (List.mem_of_getElem? (i := 47) rfl)⟩
theorem lw_p13 : lw_okq (⟨"QuarryOrders$Quarry", "make", "(LQuarryOrders$Block;II)V"⟩, 13) := ⟨⟨by decide +kernel, by decide +kernel⟩, lw_t1 (List.mem_of_getElem? (i := 38) rfl), lw_t3 (List.mem_of_getElem? (i := 66) rfl), lw_t3 (List.mem_of_getElem? (i := 67) rfl)⟩
theorem lw_p14 : lw_okq (⟨"QuarryOrders", "whyNotShelter", "(I)I"⟩, 4) := ⟨⟨by decide +kernel, by decide +kernel⟩, lw_t1 (List.mem_of_getElem? (i := 30) rfl), lw_t3 (List.mem_of_getElem? (i := 95) rfl), lw_t3 (List.mem_of_getElem? (i := 96) rfl)⟩
theorem lw_p15 : lw_okq (⟨"QuarryOrders", "orders", "(Z[I)I"⟩, 4) := ⟨⟨by decide +kernel, by decide +kernel⟩, lw_t1 (List.mem_of_getElem? (i := 30) rfl), lw_t3 (List.mem_of_getElem? (i := 104) rfl), lw_t3 (List.mem_of_getElem? (i := 105) rfl)⟩
def lw_privs_1 : List (MethodName × Nat) := [(⟨"QuarryOrders", "begun", "(IZ)I"⟩, 4), (⟨"QuarryOrders", "record", "()V"⟩, 4), (⟨"java/util/ArrayList", "fastRemove", "([Ljava/lang/Object;I)V"⟩, 3), (⟨"java/util/ArrayList", "add", "(Ljava/lang/Object;[Ljava/lang/Object;I)V"⟩, 3), (⟨"java/util/ArrayList", "grow", "()[Ljava/lang/Object;"⟩, 3), (⟨"java/util/ArrayList", "grow", "(I)[Ljava/lang/Object;"⟩, 3), (⟨"QuarryOrders", "quarries", "(ZI[I)I"⟩, 4), (⟨"QuarryOrders", "whyNotQuarry", "(I[I)I"⟩, 4), (⟨"QuarryOrders", "cuts", "(IIIZ)I"⟩, 4), (⟨"QuarryOrders", "whyNotCut", "(III)I"⟩, 4), (⟨"QuarryOrders", "isBlock", "(I)Z"⟩, 4), (⟨"QuarryOrders", "blockAt", "(I)LQuarryOrders$Block;"⟩, 4), (⟨"QuarryOrders", "canBeCut", "(LQuarryOrders$Block;)Z"⟩, 4), (⟨"QuarryOrders$Quarry", "make", "(LQuarryOrders$Block;II)V"⟩, 13), (⟨"QuarryOrders", "whyNotShelter", "(I)I"⟩, 4), (⟨"QuarryOrders", "orders", "(Z[I)I"⟩, 4)]
theorem lw_r1 : ∀ q ∈ lw_privs_1, lw_okq q := List.forall_mem_cons.mpr ⟨lw_p0, List.forall_mem_cons.mpr ⟨lw_p1, List.forall_mem_cons.mpr ⟨lw_p2, List.forall_mem_cons.mpr ⟨lw_p3, List.forall_mem_cons.mpr ⟨lw_p4, List.forall_mem_cons.mpr ⟨lw_p5, List.forall_mem_cons.mpr ⟨lw_p6, List.forall_mem_cons.mpr ⟨lw_p7, List.forall_mem_cons.mpr ⟨lw_p8, List.forall_mem_cons.mpr ⟨lw_p9, List.forall_mem_cons.mpr ⟨lw_p10, List.forall_mem_cons.mpr ⟨lw_p11, List.forall_mem_cons.mpr ⟨lw_p12, List.forall_mem_cons.mpr ⟨lw_p13, List.forall_mem_cons.mpr ⟨lw_p14, List.forall_mem_cons.mpr ⟨lw_p15, fun _ h => absurd h List.not_mem_nil⟩⟩⟩⟩⟩⟩⟩⟩⟩⟩⟩⟩⟩⟩⟩⟩
theorem lw_p16 : lw_okq (⟨"QuarryOrders", "gives", "(IIZ)I"⟩, 4) := ⟨⟨by decide +kernel, by decide +kernel⟩, lw_t1 (List.mem_of_getElem? (i := 30) rfl), lw_t3 (List.mem_of_getElem? (i := 120) rfl), lw_t3 (List.mem_of_getElem? (i := 121) rfl)⟩
theorem lw_p17 : lw_okq (⟨"QuarryOrders", "whyNotGive", "(II)I"⟩, 4) := ⟨⟨by decide +kernel, by decide +kernel⟩, lw_t1 (List.mem_of_getElem? (i := 30) rfl), lw_t3 (List.mem_of_getElem? (i := 124) rfl), lw_t3 (List.mem_of_getElem? (i := 125) rfl)⟩
theorem lw_p18 : lw_okq (⟨"QuarryOrders", "isOrder", "(I)Z"⟩, 4) := ⟨⟨by decide +kernel, by decide +kernel⟩, lw_t1 (List.mem_of_getElem? (i := 30) rfl), lw_t3 (List.mem_of_getElem? (i := 128) rfl), lw_t3 (List.mem_of_getElem? (i := 129) rfl)⟩
theorem lw_p19 : lw_okq (⟨"QuarryOrders", "orderAt", "(I)LQuarryOrders$Order;"⟩, 4) := ⟨⟨by decide +kernel, by decide +kernel⟩, lw_t1 (List.mem_of_getElem? (i := 30) rfl), lw_t3 (List.mem_of_getElem? (i := 132) rfl), lw_t3 (List.mem_of_getElem? (i := 133) rfl)⟩
theorem lw_p20 : lw_okq (⟨"QuarryOrders", "whyNotLimits", "(I[I)I"⟩, 4) := ⟨⟨by decide +kernel, by decide +kernel⟩, lw_t1 (List.mem_of_getElem? (i := 30) rfl), lw_t3 (List.mem_of_getElem? (i := 159) rfl), lw_t3 (List.mem_of_getElem? (i := 160) rfl)⟩
theorem lw_p21 : lw_okq (⟨"QuarryOrders", "loads", "(IIIZ)I"⟩, 4) := ⟨⟨by decide +kernel, by decide +kernel⟩, lw_t1 (List.mem_of_getElem? (i := 30) rfl), lw_t3 (List.mem_of_getElem? (i := 170) rfl), lw_t3 (List.mem_of_getElem? (i := 171) rfl)⟩
theorem lw_p22 : lw_okq (⟨"QuarryOrders", "whyNotLoad", "(III)I"⟩, 4) := ⟨⟨by decide +kernel, by decide +kernel⟩, lw_t1 (List.mem_of_getElem? (i := 30) rfl), lw_t3 (List.mem_of_getElem? (i := 174) rfl), lw_t3 (List.mem_of_getElem? (i := 175) rfl)⟩
theorem lw_p23 : lw_okq (⟨"QuarryOrders", "leaves", "(IZ)I"⟩, 4) := ⟨⟨by decide +kernel, by decide +kernel⟩, lw_t1 (List.mem_of_getElem? (i := 30) rfl), lw_t3 (List.mem_of_getElem? (i := 198) rfl), lw_t3 (List.mem_of_getElem? (i := 199) rfl)⟩
theorem lw_p24 : lw_okq (⟨"QuarryOrders$Quarry", "hasCracked", "(I)Z"⟩, 13) := ⟨⟨by decide +kernel, by decide +kernel⟩, lw_t1 (List.mem_of_getElem? (i := 38) rfl), lw_t3 (List.mem_of_getElem? (i := 210) rfl), lw_t3 (List.mem_of_getElem? (i := 211) rfl)⟩
theorem lw_p25 : lw_okq (⟨"QuarryOrders$Quarry", "deliver", "(LQuarryOrders$Block;)I"⟩, 13) := ⟨⟨by decide +kernel, by decide +kernel⟩, lw_t1 (List.mem_of_getElem? (i := 38) rfl), lw_t3 (List.mem_of_getElem? (i := 225) rfl), lw_t3 (List.mem_of_getElem? (i := 226) rfl)⟩
theorem lw_p26 : lw_okq (⟨"QuarryOrders", "passes", "(IZ)I"⟩, 4) := ⟨⟨by decide +kernel, by decide +kernel⟩, lw_t1 (List.mem_of_getElem? (i := 30) rfl), lw_t3 (List.mem_of_getElem? (i := 235) rfl), lw_t3 (List.mem_of_getElem? (i := 236) rfl)⟩
theorem lw_p27 : lw_okq (⟨"QuarryOrders", "whyNotNight", "(I)I"⟩, 4) := ⟨⟨by decide +kernel, by decide +kernel⟩, lw_t1 (List.mem_of_getElem? (i := 30) rfl), lw_t3 (List.mem_of_getElem? (i := 239) rfl), lw_t4 (List.mem_of_getElem? (i := 0) rfl)⟩
theorem lw_p28 : lw_okq (⟨"QuarryOrders", "fits", "(LQuarryOrders$Order;LQuarryOrders$Block;II)Z"⟩, 4) := ⟨⟨by decide +kernel, by decide +kernel⟩, lw_t1 (List.mem_of_getElem? (i := 30) rfl), lw_t4 (List.mem_of_getElem? (i := 93) rfl), lw_t4 (List.mem_of_getElem? (i := 94) rfl)⟩
theorem lw_p29 : lw_okq (⟨"QuarryOrders$Reader", "readOrder", "()V"⟩, 4) := ⟨⟨by decide +kernel, by decide +kernel⟩, lw_t4 (List.mem_of_getElem? (i := 223) rfl), lw_t4 (List.mem_of_getElem? (i := 231) rfl), lw_t4 (List.mem_of_getElem? (i := 232) rfl)⟩
theorem lw_p30 : lw_okq (⟨"QuarryOrders$Reader", "next", "()C"⟩, 4) := ⟨⟨by decide +kernel, by decide +kernel⟩, lw_t4 (List.mem_of_getElem? (i := 223) rfl), lw_t4 (List.mem_of_getElem? (i := 235) rfl), lw_t4 (List.mem_of_getElem? (i := 236) rfl)⟩
theorem lw_p31 : lw_okq (⟨"QuarryOrders$Reader", "order", "(C)[I"⟩, 4) := ⟨⟨by decide +kernel, by decide +kernel⟩, lw_t4 (List.mem_of_getElem? (i := 223) rfl), lw_t5 (List.mem_of_getElem? (i := 81) rfl), lw_t5 (List.mem_of_getElem? (i := 82) rfl)⟩
def lw_privs_2 : List (MethodName × Nat) := [(⟨"QuarryOrders", "gives", "(IIZ)I"⟩, 4), (⟨"QuarryOrders", "whyNotGive", "(II)I"⟩, 4), (⟨"QuarryOrders", "isOrder", "(I)Z"⟩, 4), (⟨"QuarryOrders", "orderAt", "(I)LQuarryOrders$Order;"⟩, 4), (⟨"QuarryOrders", "whyNotLimits", "(I[I)I"⟩, 4), (⟨"QuarryOrders", "loads", "(IIIZ)I"⟩, 4), (⟨"QuarryOrders", "whyNotLoad", "(III)I"⟩, 4), (⟨"QuarryOrders", "leaves", "(IZ)I"⟩, 4), (⟨"QuarryOrders$Quarry", "hasCracked", "(I)Z"⟩, 13), (⟨"QuarryOrders$Quarry", "deliver", "(LQuarryOrders$Block;)I"⟩, 13), (⟨"QuarryOrders", "passes", "(IZ)I"⟩, 4), (⟨"QuarryOrders", "whyNotNight", "(I)I"⟩, 4), (⟨"QuarryOrders", "fits", "(LQuarryOrders$Order;LQuarryOrders$Block;II)Z"⟩, 4), (⟨"QuarryOrders$Reader", "readOrder", "()V"⟩, 4), (⟨"QuarryOrders$Reader", "next", "()C"⟩, 4), (⟨"QuarryOrders$Reader", "order", "(C)[I"⟩, 4)]
theorem lw_r2 : ∀ q ∈ lw_privs_2, lw_okq q := List.forall_mem_cons.mpr ⟨lw_p16, List.forall_mem_cons.mpr ⟨lw_p17, List.forall_mem_cons.mpr ⟨lw_p18, List.forall_mem_cons.mpr ⟨lw_p19, List.forall_mem_cons.mpr ⟨lw_p20, List.forall_mem_cons.mpr ⟨lw_p21, List.forall_mem_cons.mpr ⟨lw_p22, List.forall_mem_cons.mpr ⟨lw_p23, List.forall_mem_cons.mpr ⟨lw_p24, List.forall_mem_cons.mpr ⟨lw_p25, List.forall_mem_cons.mpr ⟨lw_p26, List.forall_mem_cons.mpr ⟨lw_p27, List.forall_mem_cons.mpr ⟨lw_p28, List.forall_mem_cons.mpr ⟨lw_p29, List.forall_mem_cons.mpr ⟨lw_p30, List.forall_mem_cons.mpr ⟨lw_p31, fun _ h => absurd h List.not_mem_nil⟩⟩⟩⟩⟩⟩⟩⟩⟩⟩⟩⟩⟩⟩⟩⟩
theorem lw_p32 : lw_okq (⟨"QuarryOrders$Reader", "cut", "()[I"⟩, 4) := ⟨⟨by decide +kernel, by decide +kernel⟩, lw_t4 (List.mem_of_getElem? (i := 223) rfl), lw_t5 (List.mem_of_getElem? (i := 85) rfl), lw_t5 (List.mem_of_getElem? (i := 86) rfl)⟩
theorem lw_p33 : lw_okq (⟨"QuarryOrders$Reader", "number", "()I"⟩, 4) := ⟨⟨by decide +kernel, by decide +kernel⟩, lw_t4 (List.mem_of_getElem? (i := 223) rfl), lw_t5 (List.mem_of_getElem? (i := 89) rfl), lw_t5 (List.mem_of_getElem? (i := 90) rfl)⟩
theorem lw_p34 : lw_okq (⟨"QuarryOrders$Reader", "digit", "()I"⟩, 4) := ⟨⟨by decide +kernel, by decide +kernel⟩, lw_t4 (List.mem_of_getElem? (i := 223) rfl), lw_t5 (List.mem_of_getElem? (i := 93) rfl), lw_t5 (List.mem_of_getElem? (i := 94) rfl)⟩
theorem lw_p35 : lw_okq (⟨"QuarryOrders$Reader", "seesDigit", "()Z"⟩, 4) := ⟨⟨by decide +kernel, by decide +kernel⟩, lw_t4 (List.mem_of_getElem? (i := 223) rfl), lw_t5 (List.mem_of_getElem? (i := 97) rfl), lw_t5 (List.mem_of_getElem? (i := 98) rfl)⟩
theorem lw_p36 : lw_okq (⟨"QuarryOrders$Reader", "sign", "(C)V"⟩, 4) := ⟨⟨by decide +kernel, by decide +kernel⟩, lw_t4 (List.mem_of_getElem? (i := 223) rfl), lw_t5 (List.mem_of_getElem? (i := 101) rfl), lw_t5 (List.mem_of_getElem? (i := 102) rfl)⟩
theorem lw_p37 : lw_okq (⟨"QuarryOrders$Reader", "behind", "(C)I"⟩, 4) := ⟨⟨by decide +kernel, by decide +kernel⟩, lw_t4 (List.mem_of_getElem? (i := 223) rfl), lw_t5 (List.mem_of_getElem? (i := 105) rfl), lw_t5 (List.mem_of_getElem? (i := 106) rfl)⟩
theorem lw_p38 : lw_okq (⟨"QuarryOrders$Reader", "row", "([I)[I"⟩, 4) := ⟨⟨by decide +kernel, by decide +kernel⟩, lw_t4 (List.mem_of_getElem? (i := 223) rfl), lw_t5 (List.mem_of_getElem? (i := 109) rfl), lw_t5 (List.mem_of_getElem? (i := 110) rfl)⟩
theorem lw_p39 : lw_okq (⟨"QuarryOrders$Reader", "load", "()[I"⟩, 4) := ⟨⟨by decide +kernel, by decide +kernel⟩, lw_t4 (List.mem_of_getElem? (i := 223) rfl), lw_t5 (List.mem_of_getElem? (i := 114) rfl), lw_t5 (List.mem_of_getElem? (i := 115) rfl)⟩
theorem lw_p40 : lw_okq (⟨"QuarryOrders$Reader", "takes", "(C)Z"⟩, 4) := ⟨⟨by decide +kernel, by decide +kernel⟩, lw_t4 (List.mem_of_getElem? (i := 223) rfl), lw_t5 (List.mem_of_getElem? (i := 118) rfl), lw_t5 (List.mem_of_getElem? (i := 119) rfl)⟩
theorem lw_p41 : lw_okq (⟨"QuarryOrders$Reader", "sizes", "(C)[I"⟩, 4) := ⟨⟨by decide +kernel, by decide +kernel⟩, lw_t4 (List.mem_of_getElem? (i := 223) rfl), lw_t5 (List.mem_of_getElem? (i := 122) rfl), lw_t5 (List.mem_of_getElem? (i := 123) rfl)⟩
theorem lw_p42 : lw_okq (⟨"QuarryOrders", "doIt", "([I)I"⟩, 4) := ⟨⟨by decide +kernel, by decide +kernel⟩, lw_t1 (List.mem_of_getElem? (i := 30) rfl), lw_t5 (List.mem_of_getElem? (i := 149) rfl), lw_t5 (List.mem_of_getElem? (i := 150) rfl)⟩
theorem lw_p43 : lw_okq (⟨"QuarryOrdersModel", "lays", "(II)I"⟩, 12) := ⟨⟨by decide +kernel, by decide +kernel⟩, lw_t5 (List.mem_of_getElem? (i := 174) rfl), lw_t5 (List.mem_of_getElem? (i := 228) rfl), lw_t5 (List.mem_of_getElem? (i := 229) rfl)⟩
theorem lw_p44 : lw_okq (⟨"QuarryOrdersModel", "looks", "()V"⟩, 12) := ⟨⟨by decide +kernel, by decide +kernel⟩, lw_t5 (List.mem_of_getElem? (i := 174) rfl), lw_t5 (List.mem_of_getElem? (i := 232) rfl), lw_t5 (List.mem_of_getElem? (i := 233) rfl)⟩
theorem lw_p45 : lw_okq (⟨"QuarryOrdersModel", "records", "()V"⟩, 12) := ⟨⟨by decide +kernel, by decide +kernel⟩, lw_t5 (List.mem_of_getElem? (i := 174) rfl), lw_t5 (List.mem_of_getElem? (i := 236) rfl), lw_t5 (List.mem_of_getElem? (i := 237) rfl)⟩
theorem lw_p46 : lw_okq (⟨"QuarryOrdersModel", "tries", "(IIIII)I"⟩, 12) := ⟨⟨by decide +kernel, by decide +kernel⟩, lw_t5 (List.mem_of_getElem? (i := 174) rfl), lw_t6 (List.mem_of_getElem? (i := 4) rfl), lw_t6 (List.mem_of_getElem? (i := 5) rfl)⟩
theorem lw_p47 : lw_okq (⟨"QuarryOrdersModel", "does", "(IIIII)I"⟩, 12) := ⟨⟨by decide +kernel, by decide +kernel⟩, lw_t5 (List.mem_of_getElem? (i := 174) rfl), lw_t6 (List.mem_of_getElem? (i := 8) rfl), lw_t6 (List.mem_of_getElem? (i := 9) rfl)⟩
def lw_privs_3 : List (MethodName × Nat) := [(⟨"QuarryOrders$Reader", "cut", "()[I"⟩, 4), (⟨"QuarryOrders$Reader", "number", "()I"⟩, 4), (⟨"QuarryOrders$Reader", "digit", "()I"⟩, 4), (⟨"QuarryOrders$Reader", "seesDigit", "()Z"⟩, 4), (⟨"QuarryOrders$Reader", "sign", "(C)V"⟩, 4), (⟨"QuarryOrders$Reader", "behind", "(C)I"⟩, 4), (⟨"QuarryOrders$Reader", "row", "([I)[I"⟩, 4), (⟨"QuarryOrders$Reader", "load", "()[I"⟩, 4), (⟨"QuarryOrders$Reader", "takes", "(C)Z"⟩, 4), (⟨"QuarryOrders$Reader", "sizes", "(C)[I"⟩, 4), (⟨"QuarryOrders", "doIt", "([I)I"⟩, 4), (⟨"QuarryOrdersModel", "lays", "(II)I"⟩, 12), (⟨"QuarryOrdersModel", "looks", "()V"⟩, 12), (⟨"QuarryOrdersModel", "records", "()V"⟩, 12), (⟨"QuarryOrdersModel", "tries", "(IIIII)I"⟩, 12), (⟨"QuarryOrdersModel", "does", "(IIIII)I"⟩, 12)]
theorem lw_r3 : ∀ q ∈ lw_privs_3, lw_okq q := List.forall_mem_cons.mpr ⟨lw_p32, List.forall_mem_cons.mpr ⟨lw_p33, List.forall_mem_cons.mpr ⟨lw_p34, List.forall_mem_cons.mpr ⟨lw_p35, List.forall_mem_cons.mpr ⟨lw_p36, List.forall_mem_cons.mpr ⟨lw_p37, List.forall_mem_cons.mpr ⟨lw_p38, List.forall_mem_cons.mpr ⟨lw_p39, List.forall_mem_cons.mpr ⟨lw_p40, List.forall_mem_cons.mpr ⟨lw_p41, List.forall_mem_cons.mpr ⟨lw_p42, List.forall_mem_cons.mpr ⟨lw_p43, List.forall_mem_cons.mpr ⟨lw_p44, List.forall_mem_cons.mpr ⟨lw_p45, List.forall_mem_cons.mpr ⟨lw_p46, List.forall_mem_cons.mpr ⟨lw_p47, fun _ h => absurd h List.not_mem_nil⟩⟩⟩⟩⟩⟩⟩⟩⟩⟩⟩⟩⟩⟩⟩⟩
theorem lw_p48 : lw_okq (⟨"QuarryOrdersModel", "quarries", "(IIII)I"⟩, 12) := ⟨⟨by decide +kernel, by decide +kernel⟩, lw_t5 (List.mem_of_getElem? (i := 174) rfl), lw_t6 (List.mem_of_getElem? (i := 12) rfl), lw_t6 (List.mem_of_getElem? (i := 13) rfl)⟩
theorem lw_p49 : lw_okq (⟨"QuarryOrdersModel", "newBlock", "(IIII)I"⟩, 12) := ⟨⟨by decide +kernel, by decide +kernel⟩, lw_t5 (List.mem_of_getElem? (i := 174) rfl), lw_t6 (List.mem_of_getElem? (i := 19) rfl), lw_t6 (List.mem_of_getElem? (i := 20) rfl)⟩
theorem lw_p50 : lw_okq (⟨"QuarryOrdersModel", "weight", "(I)I"⟩, 12) := ⟨⟨by decide +kernel, by decide +kernel⟩, lw_t5 (List.mem_of_getElem? (i := 174) rfl), lw_t6 (List.mem_of_getElem? (i := 26) rfl), lw_t6 (List.mem_of_getElem? (i := 27) rfl)⟩
theorem lw_p51 : lw_okq (⟨"QuarryOrdersModel", "cuts", "(III)I"⟩, 12) := ⟨⟨by decide +kernel, by decide +kernel⟩, lw_t5 (List.mem_of_getElem? (i := 174) rfl), lw_t6 (List.mem_of_getElem? (i := 30) rfl), lw_t6 (List.mem_of_getElem? (i := 31) rfl)⟩
theorem lw_p52 : lw_okq (⟨"QuarryOrdersModel", "isBlock", "(I)Z"⟩, 12) := ⟨⟨by decide +kernel, by decide +kernel⟩, lw_t5 (List.mem_of_getElem? (i := 174) rfl), lw_t6 (List.mem_of_getElem? (i := 34) rfl), lw_t6 (List.mem_of_getElem? (i := 35) rfl)⟩
theorem lw_p53 : lw_okq (⟨"QuarryOrdersModel", "canBeCut", "(I)Z"⟩, 12) := ⟨⟨by decide +kernel, by decide +kernel⟩, lw_t5 (List.mem_of_getElem? (i := 174) rfl), lw_t6 (List.mem_of_getElem? (i := 38) rfl), lw_t6 (List.mem_of_getElem? (i := 39) rfl)⟩
theorem lw_p54 : lw_okq (⟨"QuarryOrdersModel", "isHere", "(I)Z"⟩, 12) := ⟨⟨by decide +kernel, by decide +kernel⟩, lw_t5 (List.mem_of_getElem? (i := 174) rfl), lw_t6 (List.mem_of_getElem? (i := 42) rfl), lw_t6 (List.mem_of_getElem? (i := 43) rfl)⟩
theorem lw_p55 : lw_okq (⟨"QuarryOrdersModel", "isAt", "(II)Z"⟩, 12) := ⟨⟨by decide +kernel, by decide +kernel⟩, lw_t5 (List.mem_of_getElem? (i := 174) rfl), lw_t6 (List.mem_of_getElem? (i := 46) rfl), lw_t6 (List.mem_of_getElem? (i := 47) rfl)⟩
theorem lw_p56 : lw_okq (⟨"QuarryOrdersModel", "part", "(III)V"⟩, 12) := ⟨⟨by decide +kernel, by decide +kernel⟩, lw_t5 (List.mem_of_getElem? (i := 174) rfl), lw_t6 (List.mem_of_getElem? (i := 50) rfl), lw_t6 (List.mem_of_getElem? (i := 51) rfl)⟩
theorem lw_p57 : lw_okq (⟨"QuarryOrdersModel", "underRoof", "()I"⟩, 12) := ⟨⟨by decide +kernel, by decide +kernel⟩, lw_t5 (List.mem_of_getElem? (i := 174) rfl), lw_t6 (List.mem_of_getElem? (i := 54) rfl), lw_t6 (List.mem_of_getElem? (i := 55) rfl)⟩
theorem lw_p58 : lw_okq (⟨"QuarryOrdersModel", "orders", "(III)I"⟩, 12) := ⟨⟨by decide +kernel, by decide +kernel⟩, lw_t5 (List.mem_of_getElem? (i := 174) rfl), lw_t6 (List.mem_of_getElem? (i := 58) rfl), lw_t6 (List.mem_of_getElem? (i := 59) rfl)⟩
theorem lw_p59 : lw_okq (⟨"QuarryOrdersModel", "sorts", "(III)V"⟩, 12) := ⟨⟨by decide +kernel, by decide +kernel⟩, lw_t5 (List.mem_of_getElem? (i := 174) rfl), lw_t6 (List.mem_of_getElem? (i := 62) rfl), lw_t6 (List.mem_of_getElem? (i := 63) rfl)⟩
theorem lw_p60 : lw_okq (⟨"QuarryOrdersModel", "gives", "(II)I"⟩, 12) := ⟨⟨by decide +kernel, by decide +kernel⟩, lw_t5 (List.mem_of_getElem? (i := 174) rfl), lw_t6 (List.mem_of_getElem? (i := 69) rfl), lw_t6 (List.mem_of_getElem? (i := 70) rfl)⟩
theorem lw_p61 : lw_okq (⟨"QuarryOrdersModel", "isOrder", "(I)Z"⟩, 12) := ⟨⟨by decide +kernel, by decide +kernel⟩, lw_t5 (List.mem_of_getElem? (i := 174) rfl), lw_t6 (List.mem_of_getElem? (i := 73) rfl), lw_t6 (List.mem_of_getElem? (i := 74) rfl)⟩
theorem lw_p62 : lw_okq (⟨"QuarryOrdersModel", "canGive", "(II)Z"⟩, 12) := ⟨⟨by decide +kernel, by decide +kernel⟩, lw_t5 (List.mem_of_getElem? (i := 174) rfl), lw_t6 (List.mem_of_getElem? (i := 77) rfl), lw_t6 (List.mem_of_getElem? (i := 78) rfl)⟩
theorem lw_p63 : lw_okq (⟨"QuarryOrdersModel", "excessOf", "(II)I"⟩, 12) := ⟨⟨by decide +kernel, by decide +kernel⟩, lw_t5 (List.mem_of_getElem? (i := 174) rfl), lw_t6 (List.mem_of_getElem? (i := 81) rfl), lw_t6 (List.mem_of_getElem? (i := 82) rfl)⟩
def lw_privs_4 : List (MethodName × Nat) := [(⟨"QuarryOrdersModel", "quarries", "(IIII)I"⟩, 12), (⟨"QuarryOrdersModel", "newBlock", "(IIII)I"⟩, 12), (⟨"QuarryOrdersModel", "weight", "(I)I"⟩, 12), (⟨"QuarryOrdersModel", "cuts", "(III)I"⟩, 12), (⟨"QuarryOrdersModel", "isBlock", "(I)Z"⟩, 12), (⟨"QuarryOrdersModel", "canBeCut", "(I)Z"⟩, 12), (⟨"QuarryOrdersModel", "isHere", "(I)Z"⟩, 12), (⟨"QuarryOrdersModel", "isAt", "(II)Z"⟩, 12), (⟨"QuarryOrdersModel", "part", "(III)V"⟩, 12), (⟨"QuarryOrdersModel", "underRoof", "()I"⟩, 12), (⟨"QuarryOrdersModel", "orders", "(III)I"⟩, 12), (⟨"QuarryOrdersModel", "sorts", "(III)V"⟩, 12), (⟨"QuarryOrdersModel", "gives", "(II)I"⟩, 12), (⟨"QuarryOrdersModel", "isOrder", "(I)Z"⟩, 12), (⟨"QuarryOrdersModel", "canGive", "(II)Z"⟩, 12), (⟨"QuarryOrdersModel", "excessOf", "(II)I"⟩, 12)]
theorem lw_r4 : ∀ q ∈ lw_privs_4, lw_okq q := List.forall_mem_cons.mpr ⟨lw_p48, List.forall_mem_cons.mpr ⟨lw_p49, List.forall_mem_cons.mpr ⟨lw_p50, List.forall_mem_cons.mpr ⟨lw_p51, List.forall_mem_cons.mpr ⟨lw_p52, List.forall_mem_cons.mpr ⟨lw_p53, List.forall_mem_cons.mpr ⟨lw_p54, List.forall_mem_cons.mpr ⟨lw_p55, List.forall_mem_cons.mpr ⟨lw_p56, List.forall_mem_cons.mpr ⟨lw_p57, List.forall_mem_cons.mpr ⟨lw_p58, List.forall_mem_cons.mpr ⟨lw_p59, List.forall_mem_cons.mpr ⟨lw_p60, List.forall_mem_cons.mpr ⟨lw_p61, List.forall_mem_cons.mpr ⟨lw_p62, List.forall_mem_cons.mpr ⟨lw_p63, fun _ h => absurd h List.not_mem_nil⟩⟩⟩⟩⟩⟩⟩⟩⟩⟩⟩⟩⟩⟩⟩⟩
theorem lw_p64 : lw_okq (⟨"QuarryOrdersModel", "excess", "(IIII)I"⟩, 12) := ⟨⟨by decide +kernel, by decide +kernel⟩, lw_t5 (List.mem_of_getElem? (i := 174) rfl), lw_t6 (List.mem_of_getElem? (i := 85) rfl), lw_t6 (List.mem_of_getElem? (i := 86) rfl)⟩
theorem lw_p65 : lw_okq (⟨"QuarryOrdersModel", "loads", "(III)I"⟩, 12) := ⟨⟨by decide +kernel, by decide +kernel⟩, lw_t5 (List.mem_of_getElem? (i := 174) rfl), lw_t6 (List.mem_of_getElem? (i := 89) rfl), lw_t6 (List.mem_of_getElem? (i := 90) rfl)⟩
theorem lw_p66 : lw_okq (⟨"QuarryOrdersModel", "blockAt", "(II)I"⟩, 12) := ⟨⟨by decide +kernel, by decide +kernel⟩, lw_t5 (List.mem_of_getElem? (i := 174) rfl), lw_t6 (List.mem_of_getElem? (i := 96) rfl), lw_t6 (List.mem_of_getElem? (i := 97) rfl)⟩
theorem lw_p67 : lw_okq (⟨"QuarryOrdersModel", "loadOf", "(I)I"⟩, 12) := ⟨⟨by decide +kernel, by decide +kernel⟩, lw_t5 (List.mem_of_getElem? (i := 174) rfl), lw_t6 (List.mem_of_getElem? (i := 100) rfl), lw_t6 (List.mem_of_getElem? (i := 101) rfl)⟩
theorem lw_p68 : lw_okq (⟨"QuarryOrdersModel", "nights", "(I)I"⟩, 12) := ⟨⟨by decide +kernel, by decide +kernel⟩, lw_t5 (List.mem_of_getElem? (i := 174) rfl), lw_t6 (List.mem_of_getElem? (i := 104) rfl), lw_t6 (List.mem_of_getElem? (i := 105) rfl)⟩
theorem lw_p69 : lw_okq (⟨"QuarryOrdersModel", "wouldCrack", "(I)Z"⟩, 12) := ⟨⟨by decide +kernel, by decide +kernel⟩, lw_t5 (List.mem_of_getElem? (i := 174) rfl), lw_t6 (List.mem_of_getElem? (i := 108) rfl), lw_t6 (List.mem_of_getElem? (i := 109) rfl)⟩
theorem lw_p70 : lw_okq (⟨"QuarryOrdersModel", "leaves", "(I)I"⟩, 12) := ⟨⟨by decide +kernel, by decide +kernel⟩, lw_t5 (List.mem_of_getElem? (i := 174) rfl), lw_t6 (List.mem_of_getElem? (i := 112) rfl), lw_t6 (List.mem_of_getElem? (i := 113) rfl)⟩
theorem lw_p71 : lw_okq (⟨"QuarryOrdersModel", "whyNot", "(I)I"⟩, 12) := ⟨⟨by decide +kernel, by decide +kernel⟩, lw_t5 (List.mem_of_getElem? (i := 174) rfl), lw_t6 (List.mem_of_getElem? (i := 116) rfl), lw_t6 (List.mem_of_getElem? (i := 117) rfl)⟩
theorem lw_p72 : lw_okq (⟨"QuarryOrdersModel", "blocksOn", "(I)I"⟩, 12) := ⟨⟨by decide +kernel, by decide +kernel⟩, lw_t5 (List.mem_of_getElem? (i := 174) rfl), lw_t6 (List.mem_of_getElem? (i := 120) rfl), lw_t6 (List.mem_of_getElem? (i := 121) rfl)⟩
theorem lw_p73 : lw_okq (⟨"QuarryOrdersModel", "hasCracked", "(I)Z"⟩, 12) := ⟨⟨by decide +kernel, by decide +kernel⟩, lw_t5 (List.mem_of_getElem? (i := 174) rfl), lw_t6 (List.mem_of_getElem? (i := 124) rfl), lw_t6 (List.mem_of_getElem? (i := 125) rfl)⟩
theorem lw_p74 : lw_okq (⟨"QuarryOrdersModel", "axleNow", "(IZ)F"⟩, 12) := ⟨⟨by decide +kernel, by decide +kernel⟩, lw_t5 (List.mem_of_getElem? (i := 174) rfl), lw_t6 (List.mem_of_getElem? (i := 128) rfl), lw_t6 (List.mem_of_getElem? (i := 129) rfl)⟩
theorem lw_p75 : lw_okq (⟨"QuarryOrdersModel", "axle", "(IZII)F"⟩, 12) := ⟨⟨by decide +kernel, by decide +kernel⟩, lw_t5 (List.mem_of_getElem? (i := 174) rfl), lw_t6 (List.mem_of_getElem? (i := 132) rfl), lw_t6 (List.mem_of_getElem? (i := 133) rfl)⟩
theorem lw_p76 : lw_okq (⟨"QuarryOrdersModel", "delivers", "(I)I"⟩, 12) := ⟨⟨by decide +kernel, by decide +kernel⟩, lw_t5 (List.mem_of_getElem? (i := 174) rfl), lw_t6 (List.mem_of_getElem? (i := 137) rfl), lw_t6 (List.mem_of_getElem? (i := 138) rfl)⟩
theorem lw_p77 : lw_okq (⟨"QuarryOrdersModel", "couldBeGiven", "(I)I"⟩, 12) := ⟨⟨by decide +kernel, by decide +kernel⟩, lw_t5 (List.mem_of_getElem? (i := 174) rfl), lw_t6 (List.mem_of_getElem? (i := 189) rfl), lw_t6 (List.mem_of_getElem? (i := 190) rfl)⟩
theorem lw_p78 : lw_okq (⟨"QuarryOrdersModel", "setOf", "(Z)I"⟩, 12) := ⟨⟨by decide +kernel, by decide +kernel⟩, lw_t5 (List.mem_of_getElem? (i := 174) rfl), lw_t6 (List.mem_of_getElem? (i := 207) rfl), lw_t6 (List.mem_of_getElem? (i := 208) rfl)⟩
theorem lw_p79 : lw_okq (⟨"QuarryOrdersModel", "notCut", "(Z)I"⟩, 12) := ⟨⟨by decide +kernel, by decide +kernel⟩, lw_t5 (List.mem_of_getElem? (i := 174) rfl), lw_t6 (List.mem_of_getElem? (i := 211) rfl), lw_t6 (List.mem_of_getElem? (i := 212) rfl)⟩
def lw_privs_5 : List (MethodName × Nat) := [(⟨"QuarryOrdersModel", "excess", "(IIII)I"⟩, 12), (⟨"QuarryOrdersModel", "loads", "(III)I"⟩, 12), (⟨"QuarryOrdersModel", "blockAt", "(II)I"⟩, 12), (⟨"QuarryOrdersModel", "loadOf", "(I)I"⟩, 12), (⟨"QuarryOrdersModel", "nights", "(I)I"⟩, 12), (⟨"QuarryOrdersModel", "wouldCrack", "(I)Z"⟩, 12), (⟨"QuarryOrdersModel", "leaves", "(I)I"⟩, 12), (⟨"QuarryOrdersModel", "whyNot", "(I)I"⟩, 12), (⟨"QuarryOrdersModel", "blocksOn", "(I)I"⟩, 12), (⟨"QuarryOrdersModel", "hasCracked", "(I)Z"⟩, 12), (⟨"QuarryOrdersModel", "axleNow", "(IZ)F"⟩, 12), (⟨"QuarryOrdersModel", "axle", "(IZII)F"⟩, 12), (⟨"QuarryOrdersModel", "delivers", "(I)I"⟩, 12), (⟨"QuarryOrdersModel", "couldBeGiven", "(I)I"⟩, 12), (⟨"QuarryOrdersModel", "setOf", "(Z)I"⟩, 12), (⟨"QuarryOrdersModel", "notCut", "(Z)I"⟩, 12)]
theorem lw_r5 : ∀ q ∈ lw_privs_5, lw_okq q := List.forall_mem_cons.mpr ⟨lw_p64, List.forall_mem_cons.mpr ⟨lw_p65, List.forall_mem_cons.mpr ⟨lw_p66, List.forall_mem_cons.mpr ⟨lw_p67, List.forall_mem_cons.mpr ⟨lw_p68, List.forall_mem_cons.mpr ⟨lw_p69, List.forall_mem_cons.mpr ⟨lw_p70, List.forall_mem_cons.mpr ⟨lw_p71, List.forall_mem_cons.mpr ⟨lw_p72, List.forall_mem_cons.mpr ⟨lw_p73, List.forall_mem_cons.mpr ⟨lw_p74, List.forall_mem_cons.mpr ⟨lw_p75, List.forall_mem_cons.mpr ⟨lw_p76, List.forall_mem_cons.mpr ⟨lw_p77, List.forall_mem_cons.mpr ⟨lw_p78, List.forall_mem_cons.mpr ⟨lw_p79, fun _ h => absurd h List.not_mem_nil⟩⟩⟩⟩⟩⟩⟩⟩⟩⟩⟩⟩⟩⟩⟩⟩
theorem lw_p80 : lw_okq (⟨"QuarryOrdersModel", "isFitting", "(IIII)Z"⟩, 12) := ⟨⟨by decide +kernel, by decide +kernel⟩, lw_t5 (List.mem_of_getElem? (i := 174) rfl), lw_t6 (List.mem_of_getElem? (i := 239) rfl), lw_t7 (List.mem_of_getElem? (i := 0) rfl)⟩
theorem lw_p81 : lw_okq (⟨"QuarryOrdersModel", "share", "(III)F"⟩, 12) := ⟨⟨by decide +kernel, by decide +kernel⟩, lw_t5 (List.mem_of_getElem? (i := 174) rfl), lw_t7 (List.mem_of_getElem? (i := 11) rfl), lw_t7 (List.mem_of_getElem? (i := 12) rfl)⟩
theorem lw_p82 : lw_okq (⟨"QuarryOrdersModel", "goes", "(Z)I"⟩, 12) := ⟨⟨by decide +kernel, by decide +kernel⟩, lw_t5 (List.mem_of_getElem? (i := 174) rfl), lw_t7 (List.mem_of_getElem? (i := 28) rfl), lw_t7 (List.mem_of_getElem? (i := 29) rfl)⟩
theorem lw_p83 : lw_okq (⟨"QuarryOrdersModel", "readOrder", "()V"⟩, 12) := ⟨⟨by decide +kernel, by decide +kernel⟩, lw_t5 (List.mem_of_getElem? (i := 174) rfl), lw_t7 (List.mem_of_getElem? (i := 32) rfl), lw_t7 (List.mem_of_getElem? (i := 33) rfl)⟩
theorem lw_p84 : lw_okq (⟨"QuarryOrdersModel", "isNext", "(II)Z"⟩, 12) := ⟨⟨by decide +kernel, by decide +kernel⟩, lw_t5 (List.mem_of_getElem? (i := 174) rfl), lw_t7 (List.mem_of_getElem? (i := 36) rfl), lw_t7 (List.mem_of_getElem? (i := 37) rfl)⟩
theorem lw_p85 : lw_okq (⟨"QuarryOrdersModel", "takes", "(II)I"⟩, 12) := ⟨⟨by decide +kernel, by decide +kernel⟩, lw_t5 (List.mem_of_getElem? (i := 174) rfl), lw_t7 (List.mem_of_getElem? (i := 40) rfl), lw_t7 (List.mem_of_getElem? (i := 41) rfl)⟩
theorem lw_p86 : lw_okq (⟨"QuarryOrdersModel", "takesNumber", "()I"⟩, 12) := ⟨⟨by decide +kernel, by decide +kernel⟩, lw_t5 (List.mem_of_getElem? (i := 174) rfl), lw_t7 (List.mem_of_getElem? (i := 44) rfl), lw_t7 (List.mem_of_getElem? (i := 45) rfl)⟩
theorem lw_p87 : lw_okq (⟨"QuarryOrdersModel", "takesBehind", "(I)I"⟩, 12) := ⟨⟨by decide +kernel, by decide +kernel⟩, lw_t5 (List.mem_of_getElem? (i := 174) rfl), lw_t7 (List.mem_of_getElem? (i := 48) rfl), lw_t7 (List.mem_of_getElem? (i := 49) rfl)⟩
def lw_privs_6 : List (MethodName × Nat) := [(⟨"QuarryOrdersModel", "isFitting", "(IIII)Z"⟩, 12), (⟨"QuarryOrdersModel", "share", "(III)F"⟩, 12), (⟨"QuarryOrdersModel", "goes", "(Z)I"⟩, 12), (⟨"QuarryOrdersModel", "readOrder", "()V"⟩, 12), (⟨"QuarryOrdersModel", "isNext", "(II)Z"⟩, 12), (⟨"QuarryOrdersModel", "takes", "(II)I"⟩, 12), (⟨"QuarryOrdersModel", "takesNumber", "()I"⟩, 12), (⟨"QuarryOrdersModel", "takesBehind", "(I)I"⟩, 12)]
theorem lw_r6 : ∀ q ∈ lw_privs_6, lw_okq q := List.forall_mem_cons.mpr ⟨lw_p80, List.forall_mem_cons.mpr ⟨lw_p81, List.forall_mem_cons.mpr ⟨lw_p82, List.forall_mem_cons.mpr ⟨lw_p83, List.forall_mem_cons.mpr ⟨lw_p84, List.forall_mem_cons.mpr ⟨lw_p85, List.forall_mem_cons.mpr ⟨lw_p86, List.forall_mem_cons.mpr ⟨lw_p87, fun _ h => absurd h List.not_mem_nil⟩⟩⟩⟩⟩⟩⟩⟩
def lw_privs : List (MethodName × Nat) := lw_privs_1 ++ (lw_privs_2 ++ (lw_privs_3 ++ (lw_privs_4 ++ (lw_privs_5 ++ (lw_privs_6)))))
def lw_tbl : List Cond := k2_sels lw_privs ++ tables_1
theorem lw_privs_ok : ∀ q ∈ lw_privs, lw_okq q := by
  show ∀ q ∈ lw_privs_1 ++ (lw_privs_2 ++ (lw_privs_3 ++ (lw_privs_4 ++ (lw_privs_5 ++ (lw_privs_6))))), lw_okq q
  exact List.forall_mem_append.mpr ⟨lw_r1, List.forall_mem_append.mpr ⟨lw_r2, List.forall_mem_append.mpr ⟨lw_r3, List.forall_mem_append.mpr ⟨lw_r4, List.forall_mem_append.mpr ⟨lw_r5, lw_r6⟩⟩⟩⟩⟩
-- ===== ONE list of words for every method: the tables' words that hold all through a run =====
def lw_all : List Cond := lw_tbl.filter goodWord
/-- a word of the tables by its place: claim/WORDS.tsv -/
theorem lw_w {w : Cond} (i : Nat) (h : lw_tbl[i]? = some w) (g : goodWord w = true) : w ∈ lw_all := List.mem_filter.mpr ⟨List.mem_of_getElem? h, g⟩
theorem lw_all_tbl {w : Cond} (h : w ∈ lw_all) : w ∈ lw_tbl := (List.mem_filter.mp h).1
theorem lw_self : GoodIn lw_all lw_all := fun w h => ⟨h, good_of_word (List.mem_filter.mp h).2⟩
/-- a class's field words, by their places -/
theorem lw_in (ws : List Cond) (ps : List Nat) (hp : ws = ps.filterMap (fun i => lw_tbl[i]?)) (hg : ws.all goodWord = true) : ∀ w ∈ ws, w ∈ lw_all := by
  intro w h
  have h1 := List.all_eq_true.mp hg w h
  rw [hp] at h
  obtain ⟨i, -, hi⟩ := List.mem_filterMap.mp h
  exact lw_w i hi h1
/-- the words of a contract for the method y with code b, L locals, answer r -/
abbrev ws_ (y : MethodName) (b : ByteArray) (L : Nat) (r : Option FieldType) : List Cond := Cond.code y b L r :: lw_all
theorem lw_meth {y : MethodName} {b : ByteArray} {L : Nat} {r : Option FieldType} (h : Cond.code y b L r ∈ lw_all) : GoodIn lw_all (ws_ y b L r) := by
  intro w hw
  rcases List.mem_cons.mp hw with e | e
  · rw [e]
    exact lw_self _ h
  · exact lw_self _ e
theorem lw_app {a c : List Cond} (ha : ∀ w ∈ a, w ∈ lw_all) (hc : GoodIn lw_all c) : GoodIn lw_all (a ++ c) := by
  intro w hw
  rcases List.mem_append.mp hw with e | e
  · exact lw_self w (ha w e)
  · exact hc w e
/-- what a call through an object asks: cwV n hts (lw_V ..) -/
theorem lw_V {own : String} {idx : Nat} {C : String} {y : MethodName} {b : ByteArray} {L : Nat} {r : Option FieldType} (h1 : Cond.methodLink own idx y ∈ lw_all) (h2 : Cond.instanceMethod y ∈ lw_all) (h3 : Cond.selects C y y ∈ lw_all) (h4 : Cond.initialized C ∈ lw_all) (h5 : Cond.code y b L r ∈ lw_all) : GoodIn lw_all (wsV own idx C y (ws_ y b L r)) := by
  refine lw_app ?_ (lw_meth h5)
  intro w hw
  simp only [List.mem_cons, List.not_mem_nil, or_false] at hw
  rcases hw with e | e | e | e
  · rw [e]; exact h1
  · rw [e]; exact h2
  · rw [e]; exact h3
  · rw [e]; exact h4
/-- what a static call asks: va_cwS n hts (lw_S ..) -/
theorem lw_S {own : String} {idx : Nat} {y : MethodName} {b : ByteArray} {L : Nat} {r : Option FieldType} (h1 : Cond.methodLink own idx y ∈ lw_all) (h2 : Cond.static y ∈ lw_all) (h3 : Cond.initialized y.cls ∈ lw_all) (h4 : Cond.code y b L r ∈ lw_all) : GoodIn lw_all (va_wsS own idx y (ws_ y b L r)) := by
  refine lw_app ?_ (lw_meth h4)
  intro w hw
  simp only [List.mem_cons, List.not_mem_nil, or_false] at hw
  rcases hw with e | e | e
  · rw [e]; exact h1
  · rw [e]; exact h2
  · rw [e]; exact h3
/-- the words of a contract for a method WITH HANDLERS (hh: its table) -/
abbrev wsW_ (y : MethodName) (b : ByteArray) (L : Nat) (r : Option FieldType) (hh : List (Nat × Nat × Nat × Nat)) : List Cond := Cond.codeWith y b L r hh :: lw_all
theorem lw_methW {y : MethodName} {b : ByteArray} {L : Nat} {r : Option FieldType} {hh : List (Nat × Nat × Nat × Nat)} (h : Cond.codeWith y b L r hh ∈ lw_all) : GoodIn lw_all (wsW_ y b L r hh) := by
  intro w hw
  rcases List.mem_cons.mp hw with e | e
  · rw [e]
    exact lw_self _ h
  · exact lw_self _ e
/-- any list of words by their places (lw_in), good -/
theorem lw_good {ws : List Cond} (h : ∀ w ∈ ws, w ∈ lw_all) : GoodIn lw_all ws := fun w hw => lw_self w (h w hw)
/-- what a call of a method with handlers asks: vx_cwVW n hts (lw_VW ..), vx_cwSW n hts (lw_SW ..) -/
theorem lw_VW {own : String} {idx : Nat} {C : String} {y : MethodName} {b : ByteArray} {L : Nat} {r : Option FieldType} {hh : List (Nat × Nat × Nat × Nat)} (h1 : Cond.methodLink own idx y ∈ lw_all) (h2 : Cond.instanceMethod y ∈ lw_all) (h3 : Cond.selects C y y ∈ lw_all) (h4 : Cond.initialized C ∈ lw_all) (h5 : Cond.codeWith y b L r hh ∈ lw_all) : GoodIn lw_all (wsV own idx C y (wsW_ y b L r hh)) := by
  refine lw_app ?_ (lw_methW h5)
  intro w hw
  simp only [List.mem_cons, List.not_mem_nil, or_false] at hw
  rcases hw with e | e | e | e
  · rw [e]; exact h1
  · rw [e]; exact h2
  · rw [e]; exact h3
  · rw [e]; exact h4
theorem lw_SW {own : String} {idx : Nat} {y : MethodName} {b : ByteArray} {L : Nat} {r : Option FieldType} {hh : List (Nat × Nat × Nat × Nat)} (h1 : Cond.methodLink own idx y ∈ lw_all) (h2 : Cond.static y ∈ lw_all) (h3 : Cond.initialized y.cls ∈ lw_all) (h4 : Cond.codeWith y b L r hh ∈ lw_all) : GoodIn lw_all (va_wsS own idx y (wsW_ y b L r hh)) := by
  refine lw_app ?_ (lw_methW h4)
  intro w hw
  simp only [List.mem_cons, List.not_mem_nil, or_false] at hw
  rcases hw with e | e | e
  · rw [e]; exact h1
  · rw [e]; exact h2
  · rw [e]; exact h3
/-- a word by its place in its run of the tables -/
theorem lw_at {r : List Cond} (hr : ∀ w ∈ r, w ∈ lw_tbl) {w : Cond} (i : Nat) (h : r[i]? = some w) : w ∈ lw_tbl := hr w (List.mem_of_getElem? h)
theorem lw_g {w : Cond} (h : w ∈ lw_tbl) (g : goodWord w = true) : w ∈ lw_all := List.mem_filter.mpr ⟨h, g⟩
theorem lw_ms : ∀ w ∈ k2_sels lw_privs, w ∈ lw_tbl := fun w h => show w ∈ k2_sels lw_privs ++ tables_1 from List.mem_append_left _ h
theorem lw_m1 : ∀ w ∈ tables_1_1, w ∈ lw_tbl := fun w h => show w ∈ k2_sels lw_privs ++ tables_1 from List.mem_append_right (k2_sels lw_privs) (show w ∈ tables_1 from List.mem_append_left _ h)
theorem lw_m2 : ∀ w ∈ tables_1_2, w ∈ lw_tbl := fun w h => show w ∈ k2_sels lw_privs ++ tables_1 from List.mem_append_right (k2_sels lw_privs) (show w ∈ tables_1 from List.mem_append_right _ (List.mem_append_left _ h))
theorem lw_m3 : ∀ w ∈ tables_1_3, w ∈ lw_tbl := fun w h => show w ∈ k2_sels lw_privs ++ tables_1 from List.mem_append_right (k2_sels lw_privs) (show w ∈ tables_1 from List.mem_append_right _ (List.mem_append_right _ (List.mem_append_left _ h)))
theorem lw_m4 : ∀ w ∈ tables_1_4, w ∈ lw_tbl := fun w h => show w ∈ k2_sels lw_privs ++ tables_1 from List.mem_append_right (k2_sels lw_privs) (show w ∈ tables_1 from List.mem_append_right _ (List.mem_append_right _ (List.mem_append_right _ (List.mem_append_left _ h))))
theorem lw_m5 : ∀ w ∈ tables_1_5, w ∈ lw_tbl := fun w h => show w ∈ k2_sels lw_privs ++ tables_1 from List.mem_append_right (k2_sels lw_privs) (show w ∈ tables_1 from List.mem_append_right _ (List.mem_append_right _ (List.mem_append_right _ (List.mem_append_right _ (List.mem_append_left _ h)))))
theorem lw_m6 : ∀ w ∈ tables_1_6, w ∈ lw_tbl := fun w h => show w ∈ k2_sels lw_privs ++ tables_1 from List.mem_append_right (k2_sels lw_privs) (show w ∈ tables_1 from List.mem_append_right _ (List.mem_append_right _ (List.mem_append_right _ (List.mem_append_right _ (List.mem_append_right _ (List.mem_append_left _ h))))))
theorem lw_m7 : ∀ w ∈ tables_1_7, w ∈ lw_tbl := fun w h => show w ∈ k2_sels lw_privs ++ tables_1 from List.mem_append_right (k2_sels lw_privs) (show w ∈ tables_1 from List.mem_append_right _ (List.mem_append_right _ (List.mem_append_right _ (List.mem_append_right _ (List.mem_append_right _ (List.mem_append_right _ h))))))
theorem qs0 : (Cond.selects "QuarryOrders" ⟨"QuarryOrders", "begun", "(IZ)I"⟩ ⟨"QuarryOrders", "begun", "(IZ)I"⟩) ∈ lw_all := lw_g (lw_at lw_ms 0 rfl) rfl
theorem qs1 : (Cond.selects "QuarryOrders" ⟨"QuarryOrders", "record", "()V"⟩ ⟨"QuarryOrders", "record", "()V"⟩) ∈ lw_all := lw_g (lw_at lw_ms 1 rfl) rfl
theorem qs2 : (Cond.selects "java/util/ArrayList" ⟨"java/util/ArrayList", "fastRemove", "([Ljava/lang/Object;I)V"⟩ ⟨"java/util/ArrayList", "fastRemove", "([Ljava/lang/Object;I)V"⟩) ∈ lw_all := lw_g (lw_at lw_ms 2 rfl) rfl
theorem qs3 : (Cond.selects "java/util/ArrayList" ⟨"java/util/ArrayList", "add", "(Ljava/lang/Object;[Ljava/lang/Object;I)V"⟩ ⟨"java/util/ArrayList", "add", "(Ljava/lang/Object;[Ljava/lang/Object;I)V"⟩) ∈ lw_all := lw_g (lw_at lw_ms 3 rfl) rfl
theorem qs4 : (Cond.selects "java/util/ArrayList" ⟨"java/util/ArrayList", "grow", "()[Ljava/lang/Object;"⟩ ⟨"java/util/ArrayList", "grow", "()[Ljava/lang/Object;"⟩) ∈ lw_all := lw_g (lw_at lw_ms 4 rfl) rfl
theorem qs5 : (Cond.selects "java/util/ArrayList" ⟨"java/util/ArrayList", "grow", "(I)[Ljava/lang/Object;"⟩ ⟨"java/util/ArrayList", "grow", "(I)[Ljava/lang/Object;"⟩) ∈ lw_all := lw_g (lw_at lw_ms 5 rfl) rfl
theorem qs6 : (Cond.selects "QuarryOrders" ⟨"QuarryOrders", "quarries", "(ZI[I)I"⟩ ⟨"QuarryOrders", "quarries", "(ZI[I)I"⟩) ∈ lw_all := lw_g (lw_at lw_ms 6 rfl) rfl
theorem qs7 : (Cond.selects "QuarryOrders" ⟨"QuarryOrders", "whyNotQuarry", "(I[I)I"⟩ ⟨"QuarryOrders", "whyNotQuarry", "(I[I)I"⟩) ∈ lw_all := lw_g (lw_at lw_ms 7 rfl) rfl
theorem qs8 : (Cond.selects "QuarryOrders" ⟨"QuarryOrders", "cuts", "(IIIZ)I"⟩ ⟨"QuarryOrders", "cuts", "(IIIZ)I"⟩) ∈ lw_all := lw_g (lw_at lw_ms 8 rfl) rfl
theorem qs9 : (Cond.selects "QuarryOrders" ⟨"QuarryOrders", "whyNotCut", "(III)I"⟩ ⟨"QuarryOrders", "whyNotCut", "(III)I"⟩) ∈ lw_all := lw_g (lw_at lw_ms 9 rfl) rfl
theorem qs10 : (Cond.selects "QuarryOrders" ⟨"QuarryOrders", "isBlock", "(I)Z"⟩ ⟨"QuarryOrders", "isBlock", "(I)Z"⟩) ∈ lw_all := lw_g (lw_at lw_ms 10 rfl) rfl
theorem qs11 : (Cond.selects "QuarryOrders" ⟨"QuarryOrders", "blockAt", "(I)LQuarryOrders$Block;"⟩ ⟨"QuarryOrders", "blockAt", "(I)LQuarryOrders$Block;"⟩) ∈ lw_all := lw_g (lw_at lw_ms 11 rfl) rfl
theorem qs12 : (Cond.selects "QuarryOrders" ⟨"QuarryOrders", "canBeCut", "(LQuarryOrders$Block;)Z"⟩ ⟨"QuarryOrders", "canBeCut", "(LQuarryOrders$Block;)Z"⟩) ∈ lw_all := lw_g (lw_at lw_ms 12 rfl) rfl
theorem qs13 : (Cond.selects "QuarryOrders$Quarry" ⟨"QuarryOrders$Quarry", "make", "(LQuarryOrders$Block;II)V"⟩ ⟨"QuarryOrders$Quarry", "make", "(LQuarryOrders$Block;II)V"⟩) ∈ lw_all := lw_g (lw_at lw_ms 13 rfl) rfl
theorem qs14 : (Cond.selects "QuarryOrders" ⟨"QuarryOrders", "whyNotShelter", "(I)I"⟩ ⟨"QuarryOrders", "whyNotShelter", "(I)I"⟩) ∈ lw_all := lw_g (lw_at lw_ms 14 rfl) rfl
theorem qs15 : (Cond.selects "QuarryOrders" ⟨"QuarryOrders", "orders", "(Z[I)I"⟩ ⟨"QuarryOrders", "orders", "(Z[I)I"⟩) ∈ lw_all := lw_g (lw_at lw_ms 15 rfl) rfl
theorem qs16 : (Cond.selects "QuarryOrders" ⟨"QuarryOrders", "gives", "(IIZ)I"⟩ ⟨"QuarryOrders", "gives", "(IIZ)I"⟩) ∈ lw_all := lw_g (lw_at lw_ms 16 rfl) rfl
theorem qs17 : (Cond.selects "QuarryOrders" ⟨"QuarryOrders", "whyNotGive", "(II)I"⟩ ⟨"QuarryOrders", "whyNotGive", "(II)I"⟩) ∈ lw_all := lw_g (lw_at lw_ms 17 rfl) rfl
theorem qs18 : (Cond.selects "QuarryOrders" ⟨"QuarryOrders", "isOrder", "(I)Z"⟩ ⟨"QuarryOrders", "isOrder", "(I)Z"⟩) ∈ lw_all := lw_g (lw_at lw_ms 18 rfl) rfl
theorem qs19 : (Cond.selects "QuarryOrders" ⟨"QuarryOrders", "orderAt", "(I)LQuarryOrders$Order;"⟩ ⟨"QuarryOrders", "orderAt", "(I)LQuarryOrders$Order;"⟩) ∈ lw_all := lw_g (lw_at lw_ms 19 rfl) rfl
theorem qs20 : (Cond.selects "QuarryOrders" ⟨"QuarryOrders", "whyNotLimits", "(I[I)I"⟩ ⟨"QuarryOrders", "whyNotLimits", "(I[I)I"⟩) ∈ lw_all := lw_g (lw_at lw_ms 20 rfl) rfl
theorem qs21 : (Cond.selects "QuarryOrders" ⟨"QuarryOrders", "loads", "(IIIZ)I"⟩ ⟨"QuarryOrders", "loads", "(IIIZ)I"⟩) ∈ lw_all := lw_g (lw_at lw_ms 21 rfl) rfl
theorem qs22 : (Cond.selects "QuarryOrders" ⟨"QuarryOrders", "whyNotLoad", "(III)I"⟩ ⟨"QuarryOrders", "whyNotLoad", "(III)I"⟩) ∈ lw_all := lw_g (lw_at lw_ms 22 rfl) rfl
theorem qs23 : (Cond.selects "QuarryOrders" ⟨"QuarryOrders", "leaves", "(IZ)I"⟩ ⟨"QuarryOrders", "leaves", "(IZ)I"⟩) ∈ lw_all := lw_g (lw_at lw_ms 23 rfl) rfl
theorem qs24 : (Cond.selects "QuarryOrders$Quarry" ⟨"QuarryOrders$Quarry", "hasCracked", "(I)Z"⟩ ⟨"QuarryOrders$Quarry", "hasCracked", "(I)Z"⟩) ∈ lw_all := lw_g (lw_at lw_ms 24 rfl) rfl
theorem qs25 : (Cond.selects "QuarryOrders$Quarry" ⟨"QuarryOrders$Quarry", "deliver", "(LQuarryOrders$Block;)I"⟩ ⟨"QuarryOrders$Quarry", "deliver", "(LQuarryOrders$Block;)I"⟩) ∈ lw_all := lw_g (lw_at lw_ms 25 rfl) rfl
theorem qs26 : (Cond.selects "QuarryOrders" ⟨"QuarryOrders", "passes", "(IZ)I"⟩ ⟨"QuarryOrders", "passes", "(IZ)I"⟩) ∈ lw_all := lw_g (lw_at lw_ms 26 rfl) rfl
theorem qs27 : (Cond.selects "QuarryOrders" ⟨"QuarryOrders", "whyNotNight", "(I)I"⟩ ⟨"QuarryOrders", "whyNotNight", "(I)I"⟩) ∈ lw_all := lw_g (lw_at lw_ms 27 rfl) rfl
theorem qs28 : (Cond.selects "QuarryOrders" ⟨"QuarryOrders", "fits", "(LQuarryOrders$Order;LQuarryOrders$Block;II)Z"⟩ ⟨"QuarryOrders", "fits", "(LQuarryOrders$Order;LQuarryOrders$Block;II)Z"⟩) ∈ lw_all := lw_g (lw_at lw_ms 28 rfl) rfl
theorem qs29 : (Cond.selects "QuarryOrders$Reader" ⟨"QuarryOrders$Reader", "readOrder", "()V"⟩ ⟨"QuarryOrders$Reader", "readOrder", "()V"⟩) ∈ lw_all := lw_g (lw_at lw_ms 29 rfl) rfl
theorem qs30 : (Cond.selects "QuarryOrders$Reader" ⟨"QuarryOrders$Reader", "next", "()C"⟩ ⟨"QuarryOrders$Reader", "next", "()C"⟩) ∈ lw_all := lw_g (lw_at lw_ms 30 rfl) rfl
theorem qs31 : (Cond.selects "QuarryOrders$Reader" ⟨"QuarryOrders$Reader", "order", "(C)[I"⟩ ⟨"QuarryOrders$Reader", "order", "(C)[I"⟩) ∈ lw_all := lw_g (lw_at lw_ms 31 rfl) rfl
theorem qs32 : (Cond.selects "QuarryOrders$Reader" ⟨"QuarryOrders$Reader", "cut", "()[I"⟩ ⟨"QuarryOrders$Reader", "cut", "()[I"⟩) ∈ lw_all := lw_g (lw_at lw_ms 32 rfl) rfl
theorem qs33 : (Cond.selects "QuarryOrders$Reader" ⟨"QuarryOrders$Reader", "number", "()I"⟩ ⟨"QuarryOrders$Reader", "number", "()I"⟩) ∈ lw_all := lw_g (lw_at lw_ms 33 rfl) rfl
theorem qs34 : (Cond.selects "QuarryOrders$Reader" ⟨"QuarryOrders$Reader", "digit", "()I"⟩ ⟨"QuarryOrders$Reader", "digit", "()I"⟩) ∈ lw_all := lw_g (lw_at lw_ms 34 rfl) rfl
theorem qs35 : (Cond.selects "QuarryOrders$Reader" ⟨"QuarryOrders$Reader", "seesDigit", "()Z"⟩ ⟨"QuarryOrders$Reader", "seesDigit", "()Z"⟩) ∈ lw_all := lw_g (lw_at lw_ms 35 rfl) rfl
theorem qs36 : (Cond.selects "QuarryOrders$Reader" ⟨"QuarryOrders$Reader", "sign", "(C)V"⟩ ⟨"QuarryOrders$Reader", "sign", "(C)V"⟩) ∈ lw_all := lw_g (lw_at lw_ms 36 rfl) rfl
theorem qs37 : (Cond.selects "QuarryOrders$Reader" ⟨"QuarryOrders$Reader", "behind", "(C)I"⟩ ⟨"QuarryOrders$Reader", "behind", "(C)I"⟩) ∈ lw_all := lw_g (lw_at lw_ms 37 rfl) rfl
theorem qs38 : (Cond.selects "QuarryOrders$Reader" ⟨"QuarryOrders$Reader", "row", "([I)[I"⟩ ⟨"QuarryOrders$Reader", "row", "([I)[I"⟩) ∈ lw_all := lw_g (lw_at lw_ms 38 rfl) rfl
theorem qs39 : (Cond.selects "QuarryOrders$Reader" ⟨"QuarryOrders$Reader", "load", "()[I"⟩ ⟨"QuarryOrders$Reader", "load", "()[I"⟩) ∈ lw_all := lw_g (lw_at lw_ms 39 rfl) rfl
theorem qs40 : (Cond.selects "QuarryOrders$Reader" ⟨"QuarryOrders$Reader", "takes", "(C)Z"⟩ ⟨"QuarryOrders$Reader", "takes", "(C)Z"⟩) ∈ lw_all := lw_g (lw_at lw_ms 40 rfl) rfl
theorem qs41 : (Cond.selects "QuarryOrders$Reader" ⟨"QuarryOrders$Reader", "sizes", "(C)[I"⟩ ⟨"QuarryOrders$Reader", "sizes", "(C)[I"⟩) ∈ lw_all := lw_g (lw_at lw_ms 41 rfl) rfl
theorem qs42 : (Cond.selects "QuarryOrders" ⟨"QuarryOrders", "doIt", "([I)I"⟩ ⟨"QuarryOrders", "doIt", "([I)I"⟩) ∈ lw_all := lw_g (lw_at lw_ms 42 rfl) rfl
theorem qs43 : (Cond.selects "QuarryOrdersModel" ⟨"QuarryOrdersModel", "lays", "(II)I"⟩ ⟨"QuarryOrdersModel", "lays", "(II)I"⟩) ∈ lw_all := lw_g (lw_at lw_ms 43 rfl) rfl
theorem qs44 : (Cond.selects "QuarryOrdersModel" ⟨"QuarryOrdersModel", "looks", "()V"⟩ ⟨"QuarryOrdersModel", "looks", "()V"⟩) ∈ lw_all := lw_g (lw_at lw_ms 44 rfl) rfl
theorem qs45 : (Cond.selects "QuarryOrdersModel" ⟨"QuarryOrdersModel", "records", "()V"⟩ ⟨"QuarryOrdersModel", "records", "()V"⟩) ∈ lw_all := lw_g (lw_at lw_ms 45 rfl) rfl
theorem qs46 : (Cond.selects "QuarryOrdersModel" ⟨"QuarryOrdersModel", "tries", "(IIIII)I"⟩ ⟨"QuarryOrdersModel", "tries", "(IIIII)I"⟩) ∈ lw_all := lw_g (lw_at lw_ms 46 rfl) rfl
theorem qs47 : (Cond.selects "QuarryOrdersModel" ⟨"QuarryOrdersModel", "does", "(IIIII)I"⟩ ⟨"QuarryOrdersModel", "does", "(IIIII)I"⟩) ∈ lw_all := lw_g (lw_at lw_ms 47 rfl) rfl
theorem qs48 : (Cond.selects "QuarryOrdersModel" ⟨"QuarryOrdersModel", "quarries", "(IIII)I"⟩ ⟨"QuarryOrdersModel", "quarries", "(IIII)I"⟩) ∈ lw_all := lw_g (lw_at lw_ms 48 rfl) rfl
theorem qs49 : (Cond.selects "QuarryOrdersModel" ⟨"QuarryOrdersModel", "newBlock", "(IIII)I"⟩ ⟨"QuarryOrdersModel", "newBlock", "(IIII)I"⟩) ∈ lw_all := lw_g (lw_at lw_ms 49 rfl) rfl
theorem qs50 : (Cond.selects "QuarryOrdersModel" ⟨"QuarryOrdersModel", "weight", "(I)I"⟩ ⟨"QuarryOrdersModel", "weight", "(I)I"⟩) ∈ lw_all := lw_g (lw_at lw_ms 50 rfl) rfl
theorem qs51 : (Cond.selects "QuarryOrdersModel" ⟨"QuarryOrdersModel", "cuts", "(III)I"⟩ ⟨"QuarryOrdersModel", "cuts", "(III)I"⟩) ∈ lw_all := lw_g (lw_at lw_ms 51 rfl) rfl
theorem qs52 : (Cond.selects "QuarryOrdersModel" ⟨"QuarryOrdersModel", "isBlock", "(I)Z"⟩ ⟨"QuarryOrdersModel", "isBlock", "(I)Z"⟩) ∈ lw_all := lw_g (lw_at lw_ms 52 rfl) rfl
theorem qs53 : (Cond.selects "QuarryOrdersModel" ⟨"QuarryOrdersModel", "canBeCut", "(I)Z"⟩ ⟨"QuarryOrdersModel", "canBeCut", "(I)Z"⟩) ∈ lw_all := lw_g (lw_at lw_ms 53 rfl) rfl
theorem qs54 : (Cond.selects "QuarryOrdersModel" ⟨"QuarryOrdersModel", "isHere", "(I)Z"⟩ ⟨"QuarryOrdersModel", "isHere", "(I)Z"⟩) ∈ lw_all := lw_g (lw_at lw_ms 54 rfl) rfl
theorem qs55 : (Cond.selects "QuarryOrdersModel" ⟨"QuarryOrdersModel", "isAt", "(II)Z"⟩ ⟨"QuarryOrdersModel", "isAt", "(II)Z"⟩) ∈ lw_all := lw_g (lw_at lw_ms 55 rfl) rfl
theorem qs56 : (Cond.selects "QuarryOrdersModel" ⟨"QuarryOrdersModel", "part", "(III)V"⟩ ⟨"QuarryOrdersModel", "part", "(III)V"⟩) ∈ lw_all := lw_g (lw_at lw_ms 56 rfl) rfl
theorem qs57 : (Cond.selects "QuarryOrdersModel" ⟨"QuarryOrdersModel", "underRoof", "()I"⟩ ⟨"QuarryOrdersModel", "underRoof", "()I"⟩) ∈ lw_all := lw_g (lw_at lw_ms 57 rfl) rfl
theorem qs58 : (Cond.selects "QuarryOrdersModel" ⟨"QuarryOrdersModel", "orders", "(III)I"⟩ ⟨"QuarryOrdersModel", "orders", "(III)I"⟩) ∈ lw_all := lw_g (lw_at lw_ms 58 rfl) rfl
theorem qs59 : (Cond.selects "QuarryOrdersModel" ⟨"QuarryOrdersModel", "sorts", "(III)V"⟩ ⟨"QuarryOrdersModel", "sorts", "(III)V"⟩) ∈ lw_all := lw_g (lw_at lw_ms 59 rfl) rfl
theorem qs60 : (Cond.selects "QuarryOrdersModel" ⟨"QuarryOrdersModel", "gives", "(II)I"⟩ ⟨"QuarryOrdersModel", "gives", "(II)I"⟩) ∈ lw_all := lw_g (lw_at lw_ms 60 rfl) rfl
theorem qs61 : (Cond.selects "QuarryOrdersModel" ⟨"QuarryOrdersModel", "isOrder", "(I)Z"⟩ ⟨"QuarryOrdersModel", "isOrder", "(I)Z"⟩) ∈ lw_all := lw_g (lw_at lw_ms 61 rfl) rfl
theorem qs62 : (Cond.selects "QuarryOrdersModel" ⟨"QuarryOrdersModel", "canGive", "(II)Z"⟩ ⟨"QuarryOrdersModel", "canGive", "(II)Z"⟩) ∈ lw_all := lw_g (lw_at lw_ms 62 rfl) rfl
theorem qs63 : (Cond.selects "QuarryOrdersModel" ⟨"QuarryOrdersModel", "excessOf", "(II)I"⟩ ⟨"QuarryOrdersModel", "excessOf", "(II)I"⟩) ∈ lw_all := lw_g (lw_at lw_ms 63 rfl) rfl
theorem qs64 : (Cond.selects "QuarryOrdersModel" ⟨"QuarryOrdersModel", "excess", "(IIII)I"⟩ ⟨"QuarryOrdersModel", "excess", "(IIII)I"⟩) ∈ lw_all := lw_g (lw_at lw_ms 64 rfl) rfl
theorem qs65 : (Cond.selects "QuarryOrdersModel" ⟨"QuarryOrdersModel", "loads", "(III)I"⟩ ⟨"QuarryOrdersModel", "loads", "(III)I"⟩) ∈ lw_all := lw_g (lw_at lw_ms 65 rfl) rfl
theorem qs66 : (Cond.selects "QuarryOrdersModel" ⟨"QuarryOrdersModel", "blockAt", "(II)I"⟩ ⟨"QuarryOrdersModel", "blockAt", "(II)I"⟩) ∈ lw_all := lw_g (lw_at lw_ms 66 rfl) rfl
theorem qs67 : (Cond.selects "QuarryOrdersModel" ⟨"QuarryOrdersModel", "loadOf", "(I)I"⟩ ⟨"QuarryOrdersModel", "loadOf", "(I)I"⟩) ∈ lw_all := lw_g (lw_at lw_ms 67 rfl) rfl
theorem qs68 : (Cond.selects "QuarryOrdersModel" ⟨"QuarryOrdersModel", "nights", "(I)I"⟩ ⟨"QuarryOrdersModel", "nights", "(I)I"⟩) ∈ lw_all := lw_g (lw_at lw_ms 68 rfl) rfl
theorem qs69 : (Cond.selects "QuarryOrdersModel" ⟨"QuarryOrdersModel", "wouldCrack", "(I)Z"⟩ ⟨"QuarryOrdersModel", "wouldCrack", "(I)Z"⟩) ∈ lw_all := lw_g (lw_at lw_ms 69 rfl) rfl
theorem qs70 : (Cond.selects "QuarryOrdersModel" ⟨"QuarryOrdersModel", "leaves", "(I)I"⟩ ⟨"QuarryOrdersModel", "leaves", "(I)I"⟩) ∈ lw_all := lw_g (lw_at lw_ms 70 rfl) rfl
theorem qs71 : (Cond.selects "QuarryOrdersModel" ⟨"QuarryOrdersModel", "whyNot", "(I)I"⟩ ⟨"QuarryOrdersModel", "whyNot", "(I)I"⟩) ∈ lw_all := lw_g (lw_at lw_ms 71 rfl) rfl
theorem qs72 : (Cond.selects "QuarryOrdersModel" ⟨"QuarryOrdersModel", "blocksOn", "(I)I"⟩ ⟨"QuarryOrdersModel", "blocksOn", "(I)I"⟩) ∈ lw_all := lw_g (lw_at lw_ms 72 rfl) rfl
theorem qs73 : (Cond.selects "QuarryOrdersModel" ⟨"QuarryOrdersModel", "hasCracked", "(I)Z"⟩ ⟨"QuarryOrdersModel", "hasCracked", "(I)Z"⟩) ∈ lw_all := lw_g (lw_at lw_ms 73 rfl) rfl
theorem qs74 : (Cond.selects "QuarryOrdersModel" ⟨"QuarryOrdersModel", "axleNow", "(IZ)F"⟩ ⟨"QuarryOrdersModel", "axleNow", "(IZ)F"⟩) ∈ lw_all := lw_g (lw_at lw_ms 74 rfl) rfl
theorem qs75 : (Cond.selects "QuarryOrdersModel" ⟨"QuarryOrdersModel", "axle", "(IZII)F"⟩ ⟨"QuarryOrdersModel", "axle", "(IZII)F"⟩) ∈ lw_all := lw_g (lw_at lw_ms 75 rfl) rfl
theorem qs76 : (Cond.selects "QuarryOrdersModel" ⟨"QuarryOrdersModel", "delivers", "(I)I"⟩ ⟨"QuarryOrdersModel", "delivers", "(I)I"⟩) ∈ lw_all := lw_g (lw_at lw_ms 76 rfl) rfl
theorem qs77 : (Cond.selects "QuarryOrdersModel" ⟨"QuarryOrdersModel", "couldBeGiven", "(I)I"⟩ ⟨"QuarryOrdersModel", "couldBeGiven", "(I)I"⟩) ∈ lw_all := lw_g (lw_at lw_ms 77 rfl) rfl
theorem qs78 : (Cond.selects "QuarryOrdersModel" ⟨"QuarryOrdersModel", "setOf", "(Z)I"⟩ ⟨"QuarryOrdersModel", "setOf", "(Z)I"⟩) ∈ lw_all := lw_g (lw_at lw_ms 78 rfl) rfl
theorem qs79 : (Cond.selects "QuarryOrdersModel" ⟨"QuarryOrdersModel", "notCut", "(Z)I"⟩ ⟨"QuarryOrdersModel", "notCut", "(Z)I"⟩) ∈ lw_all := lw_g (lw_at lw_ms 79 rfl) rfl
theorem qs80 : (Cond.selects "QuarryOrdersModel" ⟨"QuarryOrdersModel", "isFitting", "(IIII)Z"⟩ ⟨"QuarryOrdersModel", "isFitting", "(IIII)Z"⟩) ∈ lw_all := lw_g (lw_at lw_ms 80 rfl) rfl
theorem qs81 : (Cond.selects "QuarryOrdersModel" ⟨"QuarryOrdersModel", "share", "(III)F"⟩ ⟨"QuarryOrdersModel", "share", "(III)F"⟩) ∈ lw_all := lw_g (lw_at lw_ms 81 rfl) rfl
theorem qs82 : (Cond.selects "QuarryOrdersModel" ⟨"QuarryOrdersModel", "goes", "(Z)I"⟩ ⟨"QuarryOrdersModel", "goes", "(Z)I"⟩) ∈ lw_all := lw_g (lw_at lw_ms 82 rfl) rfl
theorem qs83 : (Cond.selects "QuarryOrdersModel" ⟨"QuarryOrdersModel", "readOrder", "()V"⟩ ⟨"QuarryOrdersModel", "readOrder", "()V"⟩) ∈ lw_all := lw_g (lw_at lw_ms 83 rfl) rfl
theorem qs84 : (Cond.selects "QuarryOrdersModel" ⟨"QuarryOrdersModel", "isNext", "(II)Z"⟩ ⟨"QuarryOrdersModel", "isNext", "(II)Z"⟩) ∈ lw_all := lw_g (lw_at lw_ms 84 rfl) rfl
theorem qs85 : (Cond.selects "QuarryOrdersModel" ⟨"QuarryOrdersModel", "takes", "(II)I"⟩ ⟨"QuarryOrdersModel", "takes", "(II)I"⟩) ∈ lw_all := lw_g (lw_at lw_ms 85 rfl) rfl
theorem qs86 : (Cond.selects "QuarryOrdersModel" ⟨"QuarryOrdersModel", "takesNumber", "()I"⟩ ⟨"QuarryOrdersModel", "takesNumber", "()I"⟩) ∈ lw_all := lw_g (lw_at lw_ms 86 rfl) rfl
theorem qs87 : (Cond.selects "QuarryOrdersModel" ⟨"QuarryOrdersModel", "takesBehind", "(I)I"⟩ ⟨"QuarryOrdersModel", "takesBehind", "(I)I"⟩) ∈ lw_all := lw_g (lw_at lw_ms 87 rfl) rfl
