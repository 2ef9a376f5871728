/-! the twin, its leaves -/
theorem zz_beq {x y : Int32} (h : x = y) : decide (x = y) = true := decide_eq_true h

theorem ct_X2_in {l : Launch} {D : va_G} {b0 : Nat} {h : zz_H} {v0 v1 v2 : Int32} : zz_Ct l D b0 yX2_in cX2_in 3 (some .boolean) 0 0 0 0 [.int v0, .int v1, .int v2] h (fun v h' => v = some (.int (zz_b (qa_in v0 v1 v2))) ∧ h' = h) := by
  refine zz_Ct.of zy_X2_in.1 rfl ?_
  intro p e s m below meth c C
  refine zz_iload_n C dX2_in_0 rfl ?_
  refine zz_iload_n C dX2_in_1 rfl ?_
  refine zz_icmp_lt (tgt := 14) C dX2_in_2 (by decide) (fun c2 => ?_) (fun c2 => ?_)
  · refine zz_iconst (v := 0) C dX2_in_14 (by decide) ?_
    refine zz_zret0 C (zz_narZ (by first | exact zz_b01 _ | decide | assumption)) dX2_in_15 rfl rfl ?_
    exact ⟨by first | rw [qa_in_t (Int32.not_lt.mp ‹_›) (Int32.not_lt.mp ‹_›)]; rfl | rw [qa_in_f1 ‹_›]; rfl | rw [qa_in_f2 ‹_›]; rfl, rfl⟩
  · refine zz_iload_n C dX2_in_5 rfl ?_
    refine zz_iload_n C dX2_in_6 rfl ?_
    refine zz_icmp_gt (tgt := 14) C dX2_in_7 (by decide) (fun c7 => ?_) (fun c7 => ?_)
    · refine zz_iconst (v := 0) C dX2_in_14 (by decide) ?_
      refine zz_zret0 C (zz_narZ (by first | exact zz_b01 _ | decide | assumption)) dX2_in_15 rfl rfl ?_
      exact ⟨by first | rw [qa_in_t (Int32.not_lt.mp ‹_›) (Int32.not_lt.mp ‹_›)]; rfl | rw [qa_in_f1 ‹_›]; rfl | rw [qa_in_f2 ‹_›]; rfl, rfl⟩
    · refine zz_iconst (v := 1) C dX2_in_10 (by decide) ?_
      refine zz_goto (tgt := 15) C dX2_in_11 (by decide) ?_
      refine zz_zret0 C (zz_narZ (by first | exact zz_b01 _ | decide | assumption)) dX2_in_15 rfl rfl ?_
      exact ⟨by first | rw [qa_in_t (Int32.not_lt.mp ‹_›) (Int32.not_lt.mp ‹_›)]; rfl | rw [qa_in_f1 ‹_›]; rfl | rw [qa_in_f2 ‹_›]; rfl, rfl⟩

theorem ct_X2_at {l : Launch} {D : va_G} {b0 : Nat} {h : zz_H} {v0 v1 : Int32} (b k : Nat) (hv0 : v0 = nI b) (hv1 : v1 = nI k) : zz_Ct l D b0 yX2_at cX2_at 2 (some .int) 0 0 0 0 [.int v0, .int v1] h (fun v h' => v = some (.int (nI (12 + 10 * b + k))) ∧ h' = h) := by
  refine zz_Ct.of zy_X2_at.1 rfl ?_
  intro p e s m below meth c C
  refine zz_bipush (v := 12) C dX2_at_0 (by decide) ?_
  refine zz_bipush (v := 10) C dX2_at_2 (by decide) ?_
  refine zz_iload_n C dX2_at_4 rfl ?_
  refine zz_imul C dX2_at_5 ?_
  refine zz_iadd C dX2_at_6 ?_
  refine zz_iload_n C dX2_at_7 rfl ?_
  refine zz_iadd C dX2_at_8 ?_
  refine zz_iret C dX2_at_9 rfl rfl ?_
  subst hv0 hv1
  exact ⟨by rw [show (12 : Int32) = nI 12 from rfl, show (10 : Int32) = nI 10 from rfl, pk_mul, nI_add, nI_add], rfl⟩

theorem ct_X2_ofOrderAt {l : Launch} {D : va_G} {b0 : Nat} {h : zz_H} {v0 v1 : Int32} (b k : Nat) (hv0 : v0 = nI b) (hv1 : v1 = nI k) : zz_Ct l D b0 yX2_ofOrderAt cX2_ofOrderAt 2 (some .int) 0 0 0 0 [.int v0, .int v1] h (fun v h' => v = some (.int (nI (252 + 6 * b + k))) ∧ h' = h) := by
  refine zz_Ct.of zy_X2_ofOrderAt.1 rfl ?_
  intro p e s m below meth c C
  refine zz_sipush (v := 252) C dX2_ofOrderAt_0 (by decide) ?_
  refine zz_bipush (v := 6) C dX2_ofOrderAt_3 (by decide) ?_
  refine zz_iload_n C dX2_ofOrderAt_5 rfl ?_
  refine zz_imul C dX2_ofOrderAt_6 ?_
  refine zz_iadd C dX2_ofOrderAt_7 ?_
  refine zz_iload_n C dX2_ofOrderAt_8 rfl ?_
  refine zz_iadd C dX2_ofOrderAt_9 ?_
  refine zz_iret C dX2_ofOrderAt_10 rfl rfl ?_
  subst hv0 hv1
  exact ⟨by rw [show (252 : Int32) = nI 252 from rfl, show (6 : Int32) = nI 6 from rfl, pk_mul, nI_add, nI_add], rfl⟩

theorem ct_X2_ofLorryAt {l : Launch} {D : va_G} {b0 : Nat} {h : zz_H} {v0 v1 : Int32} (b k : Nat) (hv0 : v0 = nI b) (hv1 : v1 = nI k) : zz_Ct l D b0 yX2_ofLorryAt cX2_ofLorryAt 2 (some .int) 0 0 0 0 [.int v0, .int v1] h (fun v h' => v = some (.int (nI (312 + 4 * b + k))) ∧ h' = h) := by
  refine zz_Ct.of zy_X2_ofLorryAt.1 rfl ?_
  intro p e s m below meth c C
  refine zz_sipush (v := 312) C dX2_ofLorryAt_0 (by decide) ?_
  refine zz_iconst (v := 4) C dX2_ofLorryAt_3 (by decide) ?_
  refine zz_iload_n C dX2_ofLorryAt_4 rfl ?_
  refine zz_imul C dX2_ofLorryAt_5 ?_
  refine zz_iadd C dX2_ofLorryAt_6 ?_
  refine zz_iload_n C dX2_ofLorryAt_7 rfl ?_
  refine zz_iadd C dX2_ofLorryAt_8 ?_
  refine zz_iret C dX2_ofLorryAt_9 rfl rfl ?_
  subst hv0 hv1
  exact ⟨by rw [show (312 : Int32) = nI 312 from rfl, show (4 : Int32) = nI 4 from rfl, pk_mul, nI_add, nI_add], rfl⟩

theorem ct_X2_isLorry {l : Launch} {D : va_G} {b0 : Nat} {h : zz_H} {v0 : Int32} : zz_Ct l D b0 yX2_isLorry cX2_isLorry 1 (some .boolean) 1 22 0 0 [.int v0] h (fun v h' => v = some (.int (zz_b (qa_in v0 0 2))) ∧ h' = h) := by
  refine zz_Ct.of zy_X2_isLorry.1 rfl ?_
  intro p e s m below meth c C
  refine zz_iload_n C dX2_isLorry_0 rfl ?_
  refine zz_iconst (v := 0) C dX2_isLorry_1 (by decide) ?_
  refine zz_iconst (v := 2) C dX2_isLorry_2 (by decide) ?_
  refine zz_callS C zy_X2_in (ct_X2_in) rfl q1272 rfl rfl rfl rfl rfl dX2_isLorry_3 ⟨Nat.le_of_ble_eq_true rfl, Nat.le_of_ble_eq_true rfl⟩ (fun v hz hp => ?_)
  obtain ⟨rfl, ez⟩ := hp
  obtain rfl := ez.symm
  refine zz_zret0 C (zz_narZ (by first | exact zz_b01 _ | decide | assumption)) dX2_isLorry_6 rfl rfl ?_
  exact ⟨rfl, rfl⟩

theorem ct_X2_isSize {l : Launch} {D : va_G} {b0 : Nat} {h : zz_H} {v0 : Int32} : zz_Ct l D b0 yX2_isSize cX2_isSize 1 (some .boolean) 1 22 0 0 [.int v0] h (fun v h' => v = some (.int (zz_b (qa_in v0 1 300))) ∧ h' = h) := by
  refine zz_Ct.of zy_X2_isSize.1 rfl ?_
  intro p e s m below meth c C
  refine zz_iload_n C dX2_isSize_0 rfl ?_
  refine zz_iconst (v := 1) C dX2_isSize_1 (by decide) ?_
  refine zz_sipush (v := 300) C dX2_isSize_2 (by decide) ?_
  refine zz_callS C zy_X2_in (ct_X2_in) rfl q1272 rfl rfl rfl rfl rfl dX2_isSize_5 ⟨Nat.le_of_ble_eq_true rfl, Nat.le_of_ble_eq_true rfl⟩ (fun v hz hp => ?_)
  obtain ⟨rfl, ez⟩ := hp
  obtain rfl := ez.symm
  refine zz_zret0 C (zz_narZ (by first | exact zz_b01 _ | decide | assumption)) dX2_isSize_8 rfl rfl ?_
  exact ⟨rfl, rfl⟩

theorem ct_X2_weight {l : Launch} {D : va_G} {b0 : Nat} {h : zz_H} {x s0 : Nat} {a : Nat → Int32} {v0 : Int32} (b : Nat) (hv0 : v0 = nI b) (hb : b < 24) (hM : tw_M D h x s0 a) : zz_Ct l D b0 yX2_weight cX2_weight 2 (some .int) 1 21 0 0 [.ref x, .int v0] h (fun v h' => v = some (.int (qa_w a b)) ∧ h' = h) := by
  refine zz_Ct.of zy_X2_weight.1 rfl ?_
  intro p e s m below meth c C
  subst hv0
  have hM0 := hM
  obtain ⟨fs, hx, hf0, hs⟩ := hM0
  first | refine zz_aload_n C dX2_weight_0 rfl ?_ | refine zz_aload_nN C dX2_weight_0 rfl ?_
  refine zz_get C rfl (by first | assumption | exact zz_us | exact zz_lk1 (by assumption) (by assumption) | exact zz_lk3 (hd _ _ (by decide) (by decide) (by decide)) (by assumption) | exact zz_uf (by assumption) (by assumption) | exact zz_lk3 (zz_xi (by assumption) (by assumption)) (zz_lk1 (by assumption) (by assumption)) | exact zz_lk3 (hd _ _ (by decide) (by decide) (by decide)) (zz_lk3 (hd _ _ (by decide) (by decide) (by decide)) (by assumption)) | (simp only [zz_up]; simp_all; done)) rfl in_X2 0 rfl q1230 (fun _ h => h) (by first | rfl | assumption) dX2_weight_1 ?_
  refine zz_iload_n C dX2_weight_4 rfl ?_
  refine zz_iconst (v := nI 0) C dX2_weight_5 (by decide) ?_
  refine zz_callS C zy_X2_at (ct_X2_at _ _ rfl rfl) rfl q1310 rfl rfl rfl rfl rfl dX2_weight_6 ⟨Nat.le_of_ble_eq_true rfl, Nat.le_of_ble_eq_true rfl⟩ (fun v hz hp => ?_)
  obtain ⟨rfl, ez⟩ := hp
  obtain rfl := ez.symm
  refine zz_iald C (by first | assumption | exact zz_us | exact zz_lk1 (by assumption) (by assumption) | exact zz_lk3 (hd _ _ (by decide) (by decide) (by decide)) (by assumption) | exact zz_uf (by assumption) (by assumption) | exact zz_lk3 (zz_xi (by assumption) (by assumption)) (zz_lk1 (by assumption) (by assumption)) | exact zz_lk3 (hd _ _ (by decide) (by decide) (by decide)) (zz_lk3 (hd _ _ (by decide) (by decide) (by decide)) (by assumption)) | (simp only [zz_up]; simp_all; done)) rfl (by omega) (by omega) dX2_weight_9 ?_
  first | refine zz_aload_n C dX2_weight_10 rfl ?_ | refine zz_aload_nN C dX2_weight_10 rfl ?_
  refine zz_get C rfl (by first | assumption | exact zz_us | exact zz_lk1 (by assumption) (by assumption) | exact zz_lk3 (hd _ _ (by decide) (by decide) (by decide)) (by assumption) | exact zz_uf (by assumption) (by assumption) | exact zz_lk3 (zz_xi (by assumption) (by assumption)) (zz_lk1 (by assumption) (by assumption)) | exact zz_lk3 (hd _ _ (by decide) (by decide) (by decide)) (zz_lk3 (hd _ _ (by decide) (by decide) (by decide)) (by assumption)) | (simp only [zz_up]; simp_all; done)) rfl in_X2 0 rfl q1230 (fun _ h => h) (by first | rfl | assumption) dX2_weight_11 ?_
  refine zz_iload_n C dX2_weight_14 rfl ?_
  refine zz_iconst (v := nI 1) C dX2_weight_15 (by decide) ?_
  refine zz_callS C zy_X2_at (ct_X2_at _ _ rfl rfl) rfl q1310 rfl rfl rfl rfl rfl dX2_weight_16 ⟨Nat.le_of_ble_eq_true rfl, Nat.le_of_ble_eq_true rfl⟩ (fun v hz hp => ?_)
  obtain ⟨rfl, ez⟩ := hp
  obtain rfl := ez.symm
  refine zz_iald C (by first | assumption | exact zz_us | exact zz_lk1 (by assumption) (by assumption) | exact zz_lk3 (hd _ _ (by decide) (by decide) (by decide)) (by assumption) | exact zz_uf (by assumption) (by assumption) | exact zz_lk3 (zz_xi (by assumption) (by assumption)) (zz_lk1 (by assumption) (by assumption)) | exact zz_lk3 (hd _ _ (by decide) (by decide) (by decide)) (zz_lk3 (hd _ _ (by decide) (by decide) (by decide)) (by assumption)) | (simp only [zz_up]; simp_all; done)) rfl (by omega) (by omega) dX2_weight_19 ?_
  refine zz_imul C dX2_weight_20 ?_
  first | refine zz_aload_n C dX2_weight_21 rfl ?_ | refine zz_aload_nN C dX2_weight_21 rfl ?_
  refine zz_get C rfl (by first | assumption | exact zz_us | exact zz_lk1 (by assumption) (by assumption) | exact zz_lk3 (hd _ _ (by decide) (by decide) (by decide)) (by assumption) | exact zz_uf (by assumption) (by assumption) | exact zz_lk3 (zz_xi (by assumption) (by assumption)) (zz_lk1 (by assumption) (by assumption)) | exact zz_lk3 (hd _ _ (by decide) (by decide) (by decide)) (zz_lk3 (hd _ _ (by decide) (by decide) (by decide)) (by assumption)) | (simp only [zz_up]; simp_all; done)) rfl in_X2 0 rfl q1230 (fun _ h => h) (by first | rfl | assumption) dX2_weight_22 ?_
  refine zz_iload_n C dX2_weight_25 rfl ?_
  refine zz_iconst (v := nI 2) C dX2_weight_26 (by decide) ?_
  refine zz_callS C zy_X2_at (ct_X2_at _ _ rfl rfl) rfl q1310 rfl rfl rfl rfl rfl dX2_weight_27 ⟨Nat.le_of_ble_eq_true rfl, Nat.le_of_ble_eq_true rfl⟩ (fun v hz hp => ?_)
  obtain ⟨rfl, ez⟩ := hp
  obtain rfl := ez.symm
  refine zz_iald C (by first | assumption | exact zz_us | exact zz_lk1 (by assumption) (by assumption) | exact zz_lk3 (hd _ _ (by decide) (by decide) (by decide)) (by assumption) | exact zz_uf (by assumption) (by assumption) | exact zz_lk3 (zz_xi (by assumption) (by assumption)) (zz_lk1 (by assumption) (by assumption)) | exact zz_lk3 (hd _ _ (by decide) (by decide) (by decide)) (zz_lk3 (hd _ _ (by decide) (by decide) (by decide)) (by assumption)) | (simp only [zz_up]; simp_all; done)) rfl (by omega) (by omega) dX2_weight_30 ?_
  refine zz_imul C dX2_weight_31 ?_
  first | refine zz_aload_n C dX2_weight_32 rfl ?_ | refine zz_aload_nN C dX2_weight_32 rfl ?_
  refine zz_get C rfl (by first | assumption | exact zz_us | exact zz_lk1 (by assumption) (by assumption) | exact zz_lk3 (hd _ _ (by decide) (by decide) (by decide)) (by assumption) | exact zz_uf (by assumption) (by assumption) | exact zz_lk3 (zz_xi (by assumption) (by assumption)) (zz_lk1 (by assumption) (by assumption)) | exact zz_lk3 (hd _ _ (by decide) (by decide) (by decide)) (zz_lk3 (hd _ _ (by decide) (by decide) (by decide)) (by assumption)) | (simp only [zz_up]; simp_all; done)) rfl in_X2 0 rfl q1230 (fun _ h => h) (by first | rfl | assumption) dX2_weight_33 ?_
  refine zz_iload_n C dX2_weight_36 rfl ?_
  refine zz_iconst (v := nI 3) C dX2_weight_37 (by decide) ?_
  refine zz_callS C zy_X2_at (ct_X2_at _ _ rfl rfl) rfl q1310 rfl rfl rfl rfl rfl dX2_weight_38 ⟨Nat.le_of_ble_eq_true rfl, Nat.le_of_ble_eq_true rfl⟩ (fun v hz hp => ?_)
  obtain ⟨rfl, ez⟩ := hp
  obtain rfl := ez.symm
  refine zz_iald C (by first | assumption | exact zz_us | exact zz_lk1 (by assumption) (by assumption) | exact zz_lk3 (hd _ _ (by decide) (by decide) (by decide)) (by assumption) | exact zz_uf (by assumption) (by assumption) | exact zz_lk3 (zz_xi (by assumption) (by assumption)) (zz_lk1 (by assumption) (by assumption)) | exact zz_lk3 (hd _ _ (by decide) (by decide) (by decide)) (zz_lk3 (hd _ _ (by decide) (by decide) (by decide)) (by assumption)) | (simp only [zz_up]; simp_all; done)) rfl (by omega) (by omega) dX2_weight_41 ?_
  refine zz_imul C dX2_weight_42 ?_
  refine zz_sipush (v := 10000) C dX2_weight_43 (by decide) ?_
  refine zz_idiv C dX2_weight_46 (by decide) ?_
  refine zz_iret C dX2_weight_47 rfl rfl ?_
  exact ⟨rfl, rfl⟩

theorem ct_X2_isAt {l : Launch} {D : va_G} {b0 : Nat} {h : zz_H} {x s0 : Nat} {a : Nat → Int32} {v0 v1 : Int32} (b : Nat) (hv0 : v0 = nI b) (hb : b < 24) (hM : tw_M D h x s0 a) : zz_Ct l D b0 yX2_isAt cX2_isAt 3 (some .boolean) 1 21 0 0 [.ref x, .int v0, .int v1] h (fun v h' => v = some (.int (zz_b (decide (a (12 + 10 * b + 4) = v1)))) ∧ h' = h) := by
  refine zz_Ct.of zy_X2_isAt.1 rfl ?_
  intro p e s m below meth c C
  subst hv0
  have hM0 := hM
  obtain ⟨fs, hx, hf0, hs⟩ := hM0
  first | refine zz_aload_n C dX2_isAt_0 rfl ?_ | refine zz_aload_nN C dX2_isAt_0 rfl ?_
  refine zz_get C rfl (by first | assumption | exact zz_us | exact zz_lk1 (by assumption) (by assumption) | exact zz_lk3 (hd _ _ (by decide) (by decide) (by decide)) (by assumption) | exact zz_uf (by assumption) (by assumption) | exact zz_lk3 (zz_xi (by assumption) (by assumption)) (zz_lk1 (by assumption) (by assumption)) | exact zz_lk3 (hd _ _ (by decide) (by decide) (by decide)) (zz_lk3 (hd _ _ (by decide) (by decide) (by decide)) (by assumption)) | (simp only [zz_up]; simp_all; done)) rfl in_X2 0 rfl q1230 (fun _ h => h) (by first | rfl | assumption) dX2_isAt_1 ?_
  refine zz_iload_n C dX2_isAt_4 rfl ?_
  refine zz_iconst (v := nI 4) C dX2_isAt_5 (by decide) ?_
  refine zz_callS C zy_X2_at (ct_X2_at _ _ rfl rfl) rfl q1310 rfl rfl rfl rfl rfl dX2_isAt_6 ⟨Nat.le_of_ble_eq_true rfl, Nat.le_of_ble_eq_true rfl⟩ (fun v hz hp => ?_)
  obtain ⟨rfl, ez⟩ := hp
  obtain rfl := ez.symm
  refine zz_iald C (by first | assumption | exact zz_us | exact zz_lk1 (by assumption) (by assumption) | exact zz_lk3 (hd _ _ (by decide) (by decide) (by decide)) (by assumption) | exact zz_uf (by assumption) (by assumption) | exact zz_lk3 (zz_xi (by assumption) (by assumption)) (zz_lk1 (by assumption) (by assumption)) | exact zz_lk3 (hd _ _ (by decide) (by decide) (by decide)) (zz_lk3 (hd _ _ (by decide) (by decide) (by decide)) (by assumption)) | (simp only [zz_up]; simp_all; done)) rfl (by omega) (by omega) dX2_isAt_9 ?_
  refine zz_iload_n C dX2_isAt_10 rfl ?_
  refine zz_icmp_ne (tgt := 18) C dX2_isAt_11 (by decide) (fun c11 => ?_) (fun c11 => ?_)
  · refine zz_iconst (v := 0) C dX2_isAt_18 (by decide) ?_
    refine zz_zret0 C (zz_narZ (by first | exact zz_b01 _ | decide | assumption)) dX2_isAt_19 rfl rfl ?_
    exact ⟨by simp_all [zz_b], rfl⟩
  · refine zz_iconst (v := 1) C dX2_isAt_14 (by decide) ?_
    refine zz_goto (tgt := 19) C dX2_isAt_15 (by decide) ?_
    refine zz_zret0 C (zz_narZ (by first | exact zz_b01 _ | decide | assumption)) dX2_isAt_19 rfl rfl ?_
    exact ⟨by simp_all [zz_b], rfl⟩

theorem ct_X2_isHere {l : Launch} {D : va_G} {b0 : Nat} {h : zz_H} {x s0 : Nat} {a : Nat → Int32} {v0 : Int32} (b : Nat) (hv0 : v0 = nI b) (hb : b < 24) (hM : tw_M D h x s0 a) : zz_Ct l D b0 yX2_isHere cX2_isHere 2 (some .boolean) 2 43 0 0 [.ref x, .int v0] h (fun v h' => v = some (.int (zz_b (qa_here a b))) ∧ h' = h) := by
  refine zz_Ct.of zy_X2_isHere.1 rfl ?_
  intro p e s m below meth c C
  subst hv0
  have hM0 := hM
  obtain ⟨fs, hx, hf0, hs⟩ := hM0
  first | refine zz_aload_n C dX2_isHere_0 rfl ?_ | refine zz_aload_nN C dX2_isHere_0 rfl ?_
  refine zz_iload_n C dX2_isHere_1 rfl ?_
  refine zz_iconst (v := 0) C dX2_isHere_2 (by decide) ?_
  refine zz_callV C zy_X2_isAt (ct_X2_isAt b rfl hb hM) rfl q1333 (by first | assumption | exact zz_us | exact zz_lk1 (by assumption) (by assumption) | exact zz_lk3 (hd _ _ (by decide) (by decide) (by decide)) (by assumption) | exact zz_uf (by assumption) (by assumption) | exact zz_lk3 (zz_xi (by assumption) (by assumption)) (zz_lk1 (by assumption) (by assumption)) | exact zz_lk3 (hd _ _ (by decide) (by decide) (by decide)) (zz_lk3 (hd _ _ (by decide) (by decide) (by decide)) (by assumption)) | (simp only [zz_up]; simp_all; done)) rfl rfl rfl rfl rfl rfl dX2_isHere_3 ⟨Nat.le_of_ble_eq_true rfl, Nat.le_of_ble_eq_true rfl⟩ (fun v hz hp => ?_)
  obtain ⟨rfl, ez⟩ := hp
  obtain rfl := ez.symm
  first | refine zz_ifb_ne (tgt := 18) C dX2_isHere_6 (by decide) (fun c6 => ?_) (fun c6 => ?_) | refine zz_if_ne (tgt := 18) C dX2_isHere_6 (by decide) (fun c6 => ?_) (fun c6 => ?_)
  · refine zz_iconst (v := 1) C dX2_isHere_18 (by decide) ?_
    refine zz_goto (tgt := 23) C dX2_isHere_19 (by decide) ?_
    refine zz_zret0 C (zz_narZ (by first | exact zz_b01 _ | decide | assumption)) dX2_isHere_23 rfl rfl ?_
    exact ⟨by simp_all [zz_b, qa_here], rfl⟩
  · first | refine zz_aload_n C dX2_isHere_9 rfl ?_ | refine zz_aload_nN C dX2_isHere_9 rfl ?_
    refine zz_iload_n C dX2_isHere_10 rfl ?_
    refine zz_iconst (v := 1) C dX2_isHere_11 (by decide) ?_
    refine zz_callV C zy_X2_isAt (ct_X2_isAt b rfl hb hM) rfl q1333 (by first | assumption | exact zz_us | exact zz_lk1 (by assumption) (by assumption) | exact zz_lk3 (hd _ _ (by decide) (by decide) (by decide)) (by assumption) | exact zz_uf (by assumption) (by assumption) | exact zz_lk3 (zz_xi (by assumption) (by assumption)) (zz_lk1 (by assumption) (by assumption)) | exact zz_lk3 (hd _ _ (by decide) (by decide) (by decide)) (zz_lk3 (hd _ _ (by decide) (by decide) (by decide)) (by assumption)) | (simp only [zz_up]; simp_all; done)) rfl rfl rfl rfl rfl rfl dX2_isHere_12 ⟨Nat.le_of_ble_eq_true rfl, Nat.le_of_ble_eq_true rfl⟩ (fun v hz hp => ?_)
    obtain ⟨rfl, ez⟩ := hp
    obtain rfl := ez.symm
    first | refine zz_ifb_eq (tgt := 22) C dX2_isHere_15 (by decide) (fun c15 => ?_) (fun c15 => ?_) | refine zz_if_eq (tgt := 22) C dX2_isHere_15 (by decide) (fun c15 => ?_) (fun c15 => ?_)
    · refine zz_iconst (v := 0) C dX2_isHere_22 (by decide) ?_
      refine zz_zret0 C (zz_narZ (by first | exact zz_b01 _ | decide | assumption)) dX2_isHere_23 rfl rfl ?_
      exact ⟨by simp_all [zz_b, qa_here], rfl⟩
    · refine zz_iconst (v := 1) C dX2_isHere_18 (by decide) ?_
      refine zz_goto (tgt := 23) C dX2_isHere_19 (by decide) ?_
      refine zz_zret0 C (zz_narZ (by first | exact zz_b01 _ | decide | assumption)) dX2_isHere_23 rfl rfl ?_
      exact ⟨by simp_all [zz_b, qa_here], rfl⟩

theorem ct_X2_isBlock {l : Launch} {D : va_G} {b0 : Nat} {h : zz_H} {x s0 : Nat} {a : Nat → Int32} {v0 : Int32} (hM : tw_M D h x s0 a) : zz_Ct l D b0 yX2_isBlock cX2_isBlock 2 (some .boolean) 1 22 0 0 [.ref x, .int v0] h (fun v h' => v = some (.int (zz_b (qa_in v0 0 (a 5 - 1)))) ∧ h' = h) := by
  refine zz_Ct.of zy_X2_isBlock.1 rfl ?_
  intro p e s m below meth c C
  have hM0 := hM
  obtain ⟨fs, hx, hf0, hs⟩ := hM0
  refine zz_iload_n C dX2_isBlock_0 rfl ?_
  refine zz_iconst (v := 0) C dX2_isBlock_1 (by decide) ?_
  first | refine zz_aload_n C dX2_isBlock_2 rfl ?_ | refine zz_aload_nN C dX2_isBlock_2 rfl ?_
  refine zz_get C rfl (by first | assumption | exact zz_us | exact zz_lk1 (by assumption) (by assumption) | exact zz_lk3 (hd _ _ (by decide) (by decide) (by decide)) (by assumption) | exact zz_uf (by assumption) (by assumption) | exact zz_lk3 (zz_xi (by assumption) (by assumption)) (zz_lk1 (by assumption) (by assumption)) | exact zz_lk3 (hd _ _ (by decide) (by decide) (by decide)) (zz_lk3 (hd _ _ (by decide) (by decide) (by decide)) (by assumption)) | (simp only [zz_up]; simp_all; done)) rfl in_X2 0 rfl q1230 (fun _ h => h) (by first | rfl | assumption) dX2_isBlock_3 ?_
  refine zz_iconst (v := nI 5) C dX2_isBlock_6 (by decide) ?_
  refine zz_iald C (by first | assumption | exact zz_us | exact zz_lk1 (by assumption) (by assumption) | exact zz_lk3 (hd _ _ (by decide) (by decide) (by decide)) (by assumption) | exact zz_uf (by assumption) (by assumption) | exact zz_lk3 (zz_xi (by assumption) (by assumption)) (zz_lk1 (by assumption) (by assumption)) | exact zz_lk3 (hd _ _ (by decide) (by decide) (by decide)) (zz_lk3 (hd _ _ (by decide) (by decide) (by decide)) (by assumption)) | (simp only [zz_up]; simp_all; done)) rfl (by omega) (by omega) dX2_isBlock_7 ?_
  refine zz_iconst (v := 1) C dX2_isBlock_8 (by decide) ?_
  refine zz_isub C dX2_isBlock_9 ?_
  refine zz_callS C zy_X2_in (ct_X2_in) rfl q1272 rfl rfl rfl rfl rfl dX2_isBlock_10 ⟨Nat.le_of_ble_eq_true rfl, Nat.le_of_ble_eq_true rfl⟩ (fun v hz hp => ?_)
  obtain ⟨rfl, ez⟩ := hp
  obtain rfl := ez.symm
  refine zz_zret0 C (zz_narZ (by first | exact zz_b01 _ | decide | assumption)) dX2_isBlock_13 rfl rfl ?_
  exact ⟨rfl, rfl⟩

theorem ct_X2_isOrder {l : Launch} {D : va_G} {b0 : Nat} {h : zz_H} {x s0 : Nat} {a : Nat → Int32} {v0 : Int32} (hM : tw_M D h x s0 a) : zz_Ct l D b0 yX2_isOrder cX2_isOrder 2 (some .boolean) 1 22 0 0 [.ref x, .int v0] h (fun v h' => v = some (.int (zz_b (qa_in v0 0 (a 6 - 1)))) ∧ h' = h) := by
  refine zz_Ct.of zy_X2_isOrder.1 rfl ?_
  intro p e s m below meth c C
  have hM0 := hM
  obtain ⟨fs, hx, hf0, hs⟩ := hM0
  refine zz_iload_n C dX2_isOrder_0 rfl ?_
  refine zz_iconst (v := 0) C dX2_isOrder_1 (by decide) ?_
  first | refine zz_aload_n C dX2_isOrder_2 rfl ?_ | refine zz_aload_nN C dX2_isOrder_2 rfl ?_
  refine zz_get C rfl (by first | assumption | exact zz_us | exact zz_lk1 (by assumption) (by assumption) | exact zz_lk3 (hd _ _ (by decide) (by decide) (by decide)) (by assumption) | exact zz_uf (by assumption) (by assumption) | exact zz_lk3 (zz_xi (by assumption) (by assumption)) (zz_lk1 (by assumption) (by assumption)) | exact zz_lk3 (hd _ _ (by decide) (by decide) (by decide)) (zz_lk3 (hd _ _ (by decide) (by decide) (by decide)) (by assumption)) | (simp only [zz_up]; simp_all; done)) rfl in_X2 0 rfl q1230 (fun _ h => h) (by first | rfl | assumption) dX2_isOrder_3 ?_
  refine zz_bipush (v := nI 6) C dX2_isOrder_6 (by decide) ?_
  refine zz_iald C (by first | assumption | exact zz_us | exact zz_lk1 (by assumption) (by assumption) | exact zz_lk3 (hd _ _ (by decide) (by decide) (by decide)) (by assumption) | exact zz_uf (by assumption) (by assumption) | exact zz_lk3 (zz_xi (by assumption) (by assumption)) (zz_lk1 (by assumption) (by assumption)) | exact zz_lk3 (hd _ _ (by decide) (by decide) (by decide)) (zz_lk3 (hd _ _ (by decide) (by decide) (by decide)) (by assumption)) | (simp only [zz_up]; simp_all; done)) rfl (by omega) (by omega) dX2_isOrder_8 ?_
  refine zz_iconst (v := 1) C dX2_isOrder_9 (by decide) ?_
  refine zz_isub C dX2_isOrder_10 ?_
  refine zz_callS C zy_X2_in (ct_X2_in) rfl q1272 rfl rfl rfl rfl rfl dX2_isOrder_11 ⟨Nat.le_of_ble_eq_true rfl, Nat.le_of_ble_eq_true rfl⟩ (fun v hz hp => ?_)
  obtain ⟨rfl, ez⟩ := hp
  obtain rfl := ez.symm
  refine zz_zret0 C (zz_narZ (by first | exact zz_b01 _ | decide | assumption)) dX2_isOrder_14 rfl rfl ?_
  exact ⟨rfl, rfl⟩

theorem ct_X2_underRoof {l : Launch} {D : va_G} {b0 : Nat} {h : zz_H} {x s0 : Nat} {a : Nat → Int32} (nb : Nat) (h5 : a 5 = nI nb) (hnb : nb ≤ 24) (hM : tw_M D h x s0 a) : zz_Ct l D b0 yX2_underRoof cX2_underRoof 3 (some .int) 2 43 0 0 [.ref x] h (fun v h' => v = some (.int (nI (qa_cnt (fun b => decide (a (12 + 10 * b + 4) = 1)) nb))) ∧ h' = h) := by
  refine zz_Ct.of zy_X2_underRoof.1 rfl ?_
  intro p e s m below meth c C
  have hM0 := hM
  obtain ⟨fs, hx, hf0, hs⟩ := hM0
  refine zz_iconst (v := 0) C dX2_underRoof_0 (by decide) ?_
  refine zz_istore_n C dX2_underRoof_1 (by decide) ?_
  refine zz_iconst (v := 0) C dX2_underRoof_2 (by decide) ?_
  refine zz_istore_n C dX2_underRoof_3 (by decide) ?_
  have L4 : ∀ (n : Nat) (i : Nat), i ≤ nb → nb + 1 ≤ i + n → zz_V D b0 3 p l e ({ frames := 2, cells := 0, slots := 0, locals := 43 } : Jvm.Room) s m ([.ref x] : List Value).toArray below meth c (MQ below (zz_Q D b0 (fun v h' => v = some (.int (nI (qa_cnt (fun b => decide (a (12 + 10 * b + 4) = 1)) nb))) ∧ h' = h)) ([.ref x] : List Value).toArray s 0 0 (fun q => b0 ≤ q)) 0 0 h [(0, .ref x), (1, .int (nI (qa_cnt (fun b => decide (a (12 + 10 * b + 4) = 1)) i))), (2, .int (nI i))] 4 [] := by
    intro n
    induction n with
    | zero =>
      intro i h1 h2
      exact absurd h2 (by omega)
    | succ n ih =>
      intro i h1 h2
      refine zz_iload_n C dX2_underRoof_4 rfl ?_
      first | refine zz_aload_n C dX2_underRoof_5 rfl ?_ | refine zz_aload_nN C dX2_underRoof_5 rfl ?_
      refine zz_get C rfl (by first | assumption | exact zz_us | exact zz_lk1 (by assumption) (by assumption) | exact zz_lk3 (hd _ _ (by decide) (by decide) (by decide)) (by assumption) | exact zz_uf (by assumption) (by assumption) | exact zz_lk3 (zz_xi (by assumption) (by assumption)) (zz_lk1 (by assumption) (by assumption)) | exact zz_lk3 (hd _ _ (by decide) (by decide) (by decide)) (zz_lk3 (hd _ _ (by decide) (by decide) (by decide)) (by assumption)) | (simp only [zz_up]; simp_all; done)) rfl in_X2 0 rfl q1230 (fun _ h => h) (by first | rfl | assumption) dX2_underRoof_6 ?_
      refine zz_iconst (v := nI 5) C dX2_underRoof_9 (by decide) ?_
      refine zz_iald C (by first | assumption | exact zz_us | exact zz_lk1 (by assumption) (by assumption) | exact zz_lk3 (hd _ _ (by decide) (by decide) (by decide)) (by assumption) | exact zz_uf (by assumption) (by assumption) | exact zz_lk3 (zz_xi (by assumption) (by assumption)) (zz_lk1 (by assumption) (by assumption)) | exact zz_lk3 (hd _ _ (by decide) (by decide) (by decide)) (zz_lk3 (hd _ _ (by decide) (by decide) (by decide)) (by assumption)) | (simp only [zz_up]; simp_all; done)) rfl (by omega) (by omega) dX2_underRoof_10 ?_
      refine zz_icmp_ge (tgt := 37) C dX2_underRoof_11 (by decide) (fun c11 => ?_) (fun c11 => ?_)
      · have hi2 : nb ≤ i := (nI_leI (by omega) (by omega)).mp (by rw [← h5]; exact c11)
        obtain rfl : i = nb := by omega
        refine zz_iload_n C dX2_underRoof_37 rfl ?_
        refine zz_iret C dX2_underRoof_38 rfl rfl ?_
        exact ⟨rfl, rfl⟩
      · have hi2 : i < nb := Nat.not_le.mp (fun q => c11 (by rw [h5]; exact nI_le q (by omega)))
        refine zz_iload_n C dX2_underRoof_14 rfl ?_
        first | refine zz_aload_n C dX2_underRoof_15 rfl ?_ | refine zz_aload_nN C dX2_underRoof_15 rfl ?_
        refine zz_iload_n C dX2_underRoof_16 rfl ?_
        refine zz_iconst (v := 1) C dX2_underRoof_17 (by decide) ?_
        refine zz_callV C zy_X2_isAt (ct_X2_isAt i rfl (by omega) hM) rfl q1333 (by first | assumption | exact zz_us | exact zz_lk1 (by assumption) (by assumption) | exact zz_lk3 (hd _ _ (by decide) (by decide) (by decide)) (by assumption) | exact zz_uf (by assumption) (by assumption) | exact zz_lk3 (zz_xi (by assumption) (by assumption)) (zz_lk1 (by assumption) (by assumption)) | exact zz_lk3 (hd _ _ (by decide) (by decide) (by decide)) (zz_lk3 (hd _ _ (by decide) (by decide) (by decide)) (by assumption)) | (simp only [zz_up]; simp_all; done)) rfl rfl rfl rfl rfl rfl dX2_underRoof_18 ⟨Nat.le_of_ble_eq_true rfl, Nat.le_of_ble_eq_true rfl⟩ (fun v hz hp => ?_)
        obtain ⟨rfl, ez⟩ := hp
        obtain rfl := ez.symm
        first | refine zz_ifb_eq (tgt := 28) C dX2_underRoof_21 (by decide) (fun c21 => ?_) (fun c21 => ?_) | refine zz_if_eq (tgt := 28) C dX2_underRoof_21 (by decide) (fun c21 => ?_) (fun c21 => ?_)
        · refine zz_iconst (v := 0) C dX2_underRoof_28 (by decide) ?_
          refine zz_iadd C dX2_underRoof_29 ?_
          refine zz_istore_n C dX2_underRoof_30 (by decide) ?_
          refine zz_iinc C dX2_underRoof_31 rfl (by first | exact nI_1 _ | exact (rfl : _ + Int32.ofInt 1 = _ + 1)) (by decide) ?_
          refine zz_goto (tgt := 4) C dX2_underRoof_34 (by decide) ?_
          refine zz_loc2 (ih (i + 1) (by omega) (by omega)) ⟨rfl, ?_, rfl, trivial⟩
          show some _ = some _
          simp_all [qa_cnt, nI_succ]
        · refine zz_iconst (v := 1) C dX2_underRoof_24 (by decide) ?_
          refine zz_goto (tgt := 29) C dX2_underRoof_25 (by decide) ?_
          refine zz_iadd C dX2_underRoof_29 ?_
          refine zz_istore_n C dX2_underRoof_30 (by decide) ?_
          refine zz_iinc C dX2_underRoof_31 rfl (by first | exact nI_1 _ | exact (rfl : _ + Int32.ofInt 1 = _ + 1)) (by decide) ?_
          refine zz_goto (tgt := 4) C dX2_underRoof_34 (by decide) ?_
          refine zz_loc2 (ih (i + 1) (by omega) (by omega)) ⟨rfl, ?_, rfl, trivial⟩
          show some _ = some _
          simp_all [qa_cnt, nI_succ]
  exact zz_loc2 (L4 (nb + 1) 0 (by omega) (by omega)) ⟨rfl, rfl, rfl, trivial⟩

