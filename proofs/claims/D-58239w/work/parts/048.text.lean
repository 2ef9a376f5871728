/-! the library: the builder of texts -/
abbrev sg_F (va : Nat) (ml : Int32) (len : Nat) : va_E := .inr (9, [.ref va, .int 0, .int ml, .int (nI len)])
abbrev sg_T (D : va_G) (cap : Nat) (g : Nat → Int32) : va_E := .inl (D.1 102, cap, .inl g)
theorem sg_c : ∀ q : Nat, q < 128 → ((nI q &&& 255).toUInt32 % 65536).toInt32 = nI q := by decide +kernel
theorem sg_b : ∀ q : Nat, q < 128 → vp_nar .byte (nI q).toInt8.toInt32 = nI q := by decide +kernel
theorem sg_sh (n : Nat) (h : n < 2 ^ 31) : nI n >>> ((0 : Int32) &&& 31) = nI n := by rw [pk_shrN h _ 0 (by decide), Nat.pow_zero, Nat.div_one]
theorem ct_J3_length {l : Launch} {D : va_G} {b0 : Nat} {h : zz_H} {B va len : Nat} {ml : Int32} (hB : h B = some (sg_F va ml len))  : zz_Ct l D b0 yJ3_length cJ3_length 1 (some .int) 0 0 0 0 [.ref B] h (fun v h' => v = some (.int (nI len)) ∧ h' = h) := by
  refine zz_Ct.of zy_J3_length rfl ?_
  intro p e s m below meth c C
  first | refine zz_aload_n C dJ3_length_0 rfl ?_ | refine zz_aload_nN C dJ3_length_0 rfl ?_
  refine zz_get C rfl (by first | assumption | exact zz_us | exact zz_lk1 (by assumption) (by assumption) | exact zz_lk3 (hd _ _ (by decide) (by decide) (by decide)) (by assumption) | exact zz_uf (by assumption) (by assumption) | exact zz_lk3 (zz_xi (by assumption) (by assumption)) (zz_lk1 (by assumption) (by assumption)) | exact zz_lk3 (hd _ _ (by decide) (by decide) (by decide)) (zz_lk3 (hd _ _ (by decide) (by decide) (by decide)) (by assumption)) | (simp only [zz_up]; simp_all; done)) rfl in_J4 3 rfl q250 (fun _ h => h) (by first | rfl | assumption) dJ3_length_1 ?_
  refine zz_iret C dJ3_length_4 rfl rfl ?_
  exact ⟨rfl, rfl⟩

theorem ct_J4_length {l : Launch} {D : va_G} {b0 : Nat} {h : zz_H} {B va len : Nat} {ml : Int32} (hB : h B = some (sg_F va ml len))  : zz_Ct l D b0 yJ4_length cJ4_length 1 (some .int) 1 20 0 0 [.ref B] h (fun v h' => v = some (.int (nI len)) ∧ h' = h) := by
  refine zz_Ct.of zy_J4_length.1 rfl ?_
  intro p e s m below meth c C
  first | refine zz_aload_n C dJ4_length_0 rfl ?_ | refine zz_aload_nN C dJ4_length_0 rfl ?_
  refine zz_callSU (Cn := "java/lang/StringBuilder") C zy_J3_length (ct_J3_length hB) rfl q867 q1596 q259 q868 (by decide) (by first | assumption | exact zz_us | exact zz_lk1 (by assumption) (by assumption) | exact zz_lk3 (hd _ _ (by decide) (by decide) (by decide)) (by assumption) | exact zz_uf (by assumption) (by assumption) | exact zz_lk3 (zz_xi (by assumption) (by assumption)) (zz_lk1 (by assumption) (by assumption)) | exact zz_lk3 (hd _ _ (by decide) (by decide) (by decide)) (zz_lk3 (hd _ _ (by decide) (by decide) (by decide)) (by assumption)) | (simp only [zz_up]; simp_all; done)) rfl rfl rfl rfl rfl rfl dJ4_length_1 ⟨Nat.le_of_ble_eq_true rfl, Nat.le_of_ble_eq_true rfl⟩ (fun v hz hp => ?_)
  obtain ⟨rfl, ez⟩ := hp
  obtain rfl := ez.symm
  refine zz_iret C dJ4_length_4 rfl rfl ?_
  exact ⟨rfl, rfl⟩

theorem ct_J3_isLatin1 {l : Launch} {D : va_G} {b0 : Nat} {h : zz_H} {B va len : Nat} {ml : Int32} (hB : h B = some (sg_F va ml len))  : zz_Ct l D b0 yJ3_isLatin1 cJ3_isLatin1 1 (some .boolean) 0 0 0 0 [.ref B] h (fun v h' => v = some (.int (1)) ∧ h' = h) := by
  refine zz_Ct.of zy_J3_isLatin1 rfl ?_
  intro p e s m below meth c C
  refine zz_gets C rfl (zz_sCOMPACT_STRINGS C) q238 (fun _ h => h) dJ3_isLatin1_0 ?_
  refine zz_if_eq (tgt := 17) C dJ3_isLatin1_3 (by decide) (fun c3 => ?_) (fun c3 => ?_)
  · exact absurd c3 (by decide)
  · first | refine zz_aload_n C dJ3_isLatin1_6 rfl ?_ | refine zz_aload_nN C dJ3_isLatin1_6 rfl ?_
    refine zz_get C rfl (by first | assumption | exact zz_us | exact zz_lk1 (by assumption) (by assumption) | exact zz_lk3 (hd _ _ (by decide) (by decide) (by decide)) (by assumption) | exact zz_uf (by assumption) (by assumption) | exact zz_lk3 (zz_xi (by assumption) (by assumption)) (zz_lk1 (by assumption) (by assumption)) | exact zz_lk3 (hd _ _ (by decide) (by decide) (by decide)) (zz_lk3 (hd _ _ (by decide) (by decide) (by decide)) (by assumption)) | (simp only [zz_up]; simp_all; done)) rfl in_J4 1 rfl q248 (fun _ h => h) (by first | rfl | assumption) dJ3_isLatin1_7 ?_
    refine zz_if_ne (tgt := 17) C dJ3_isLatin1_10 (by decide) (fun c10 => ?_) (fun c10 => ?_)
    · exact absurd rfl c10
    · refine zz_iconst (v := 1) C dJ3_isLatin1_13 (by decide) ?_
      refine zz_goto (tgt := 18) C dJ3_isLatin1_14 (by decide) ?_
      refine zz_zret0 C (zz_narZ (by first | exact zz_b01 _ | decide | assumption)) dJ3_isLatin1_18 rfl rfl ?_
      exact ⟨rfl, rfl⟩

theorem ct_J17_canEncode {l : Launch} {D : va_G} {b0 : Nat} {h : zz_H} {v0 : Int32} (hv : v0 ≤ 255)  : zz_Ct l D b0 yJ17_canEncode cJ17_canEncode 1 (some .boolean) 0 0 0 0 [.int v0] h (fun v h' => v = some (.int (1)) ∧ h' = h) := by
  refine zz_Ct.of zy_J17_canEncode.1 rfl ?_
  intro p e s m below meth c C
  refine zz_iload_n C dJ17_canEncode_0 rfl ?_
  refine zz_sipush (v := 255) C dJ17_canEncode_1 (by decide) ?_
  refine zz_icmp_gt (tgt := 11) C dJ17_canEncode_4 (by decide) (fun c4 => ?_) (fun c4 => ?_)
  · exact absurd c4 (Int32.not_lt.mpr hv)
  · refine zz_iconst (v := 1) C dJ17_canEncode_7 (by decide) ?_
    refine zz_goto (tgt := 12) C dJ17_canEncode_8 (by decide) ?_
    refine zz_zret0 C (zz_narZ (by first | exact zz_b01 _ | decide | assumption)) dJ17_canEncode_12 rfl rfl ?_
    exact ⟨rfl, rfl⟩

theorem ct_J5_checkIndex {l : Launch} {D : va_G} {b0 : Nat} {h : zz_H} {v0 v1 : Int32} (h0 : ¬ v0 < 0) (h1 : v0 < v1)  : zz_Ct l D b0 yJ5_checkIndex cJ5_checkIndex 2 (none) 1 22 0 0 [.int v0, .int v1] h (fun v h' => v = none ∧ h' = h) := by
  refine zz_Ct.of zy_J5_checkIndex.1 rfl ?_
  intro p e s m below meth c C
  refine zz_iload_n C dJ5_checkIndex_0 rfl ?_
  refine zz_iload_n C dJ5_checkIndex_1 rfl ?_
  refine zz_gets C rfl (zz_sSIOOBE_FORMATTER C) q978 (fun _ h => h) dJ5_checkIndex_2 ?_
  refine zz_callS C zy_J8_checkIndex (ct_J8_checkIndexR h0 h1) rfl q1001 rfl rfl rfl rfl rfl dJ5_checkIndex_5 ⟨Nat.le_of_ble_eq_true rfl, Nat.le_of_ble_eq_true rfl⟩ (fun v hz hp => ?_)
  obtain ⟨rfl, ez⟩ := hp
  obtain rfl := ez.symm
  refine zz_pop C dJ5_checkIndex_8 rfl ?_
  refine zz_vret C dJ5_checkIndex_9 rfl rfl ?_
  exact ⟨rfl, rfl⟩

theorem ct_J3_charAt {l : Launch} {D : va_G} {b0 : Nat} {h : zz_H} {B va cap len : Nat} {ml : Int32} {g : Nat → Int32} {v0 : Int32} (j : Nat) (hv0 : v0 = nI j) (hj : j < len) (hl : len ≤ cap) (hcap : cap ≤ 1000) {q : Nat} (hq : q < 128) (hg : g j = nI q) (hB : h B = some (sg_F va ml len)) (hV : h va = some (sg_T D cap g))  : zz_Ct l D b0 yJ3_charAt cJ3_charAt 5 (some .char) 2 60 0 0 [.ref B, .int v0] h (fun v h' => v = some (.int (nI q)) ∧ h' = h) := by
  refine zz_Ct.of zy_J3_charAt rfl ?_
  intro p e s m below meth c C
  first | refine zz_aload_n C dJ3_charAt_0 rfl ?_ | refine zz_aload_nN C dJ3_charAt_0 rfl ?_
  refine zz_get C rfl (by first | assumption | exact zz_us | exact zz_lk1 (by assumption) (by assumption) | exact zz_lk3 (hd _ _ (by decide) (by decide) (by decide)) (by assumption) | exact zz_uf (by assumption) (by assumption) | exact zz_lk3 (zz_xi (by assumption) (by assumption)) (zz_lk1 (by assumption) (by assumption)) | exact zz_lk3 (hd _ _ (by decide) (by decide) (by decide)) (zz_lk3 (hd _ _ (by decide) (by decide) (by decide)) (by assumption)) | (simp only [zz_up]; simp_all; done)) rfl in_J4 1 rfl q248 (fun _ h => h) (by first | rfl | assumption) dJ3_charAt_1 ?_
  refine zz_istore_n C dJ3_charAt_4 (by decide) ?_
  first | refine zz_aload_n C dJ3_charAt_5 rfl ?_ | refine zz_aload_nN C dJ3_charAt_5 rfl ?_
  refine zz_get C rfl (by first | assumption | exact zz_us | exact zz_lk1 (by assumption) (by assumption) | exact zz_lk3 (hd _ _ (by decide) (by decide) (by decide)) (by assumption) | exact zz_uf (by assumption) (by assumption) | exact zz_lk3 (zz_xi (by assumption) (by assumption)) (zz_lk1 (by assumption) (by assumption)) | exact zz_lk3 (hd _ _ (by decide) (by decide) (by decide)) (zz_lk3 (hd _ _ (by decide) (by decide) (by decide)) (by assumption)) | (simp only [zz_up]; simp_all; done)) rfl in_J4 0 rfl q247 (fun _ h => h) (by first | rfl | assumption) dJ3_charAt_6 ?_
  refine zz_astore_n C dJ3_charAt_9 (by decide) ?_
  first | refine zz_aload_n C dJ3_charAt_10 rfl ?_ | refine zz_aload_nN C dJ3_charAt_10 rfl ?_
  refine zz_get C rfl (by first | assumption | exact zz_us | exact zz_lk1 (by assumption) (by assumption) | exact zz_lk3 (hd _ _ (by decide) (by decide) (by decide)) (by assumption) | exact zz_uf (by assumption) (by assumption) | exact zz_lk3 (zz_xi (by assumption) (by assumption)) (zz_lk1 (by assumption) (by assumption)) | exact zz_lk3 (hd _ _ (by decide) (by decide) (by decide)) (zz_lk3 (hd _ _ (by decide) (by decide) (by decide)) (by assumption)) | (simp only [zz_up]; simp_all; done)) rfl in_J4 3 rfl q250 (fun _ h => h) (by first | rfl | assumption) dJ3_charAt_11 ?_
  first | refine zz_aload_n C dJ3_charAt_14 rfl ?_ | refine zz_aload_nN C dJ3_charAt_14 rfl ?_
  refine zz_alen C (by first | assumption | exact zz_us | exact zz_lk1 (by assumption) (by assumption) | exact zz_lk3 (hd _ _ (by decide) (by decide) (by decide)) (by assumption) | exact zz_uf (by assumption) (by assumption) | exact zz_lk3 (zz_xi (by assumption) (by assumption)) (zz_lk1 (by assumption) (by assumption)) | exact zz_lk3 (hd _ _ (by decide) (by decide) (by decide)) (zz_lk3 (hd _ _ (by decide) (by decide) (by decide)) (by assumption)) | (simp only [zz_up]; simp_all; done)) 2 rfl dJ3_charAt_15 ?_
  refine zz_iload_n C dJ3_charAt_16 rfl ?_
  refine zz_ishr C dJ3_charAt_17 ?_
  rw [sg_sh cap (by omega)]
  refine zz_mmin C rfl q1054 dJ3_charAt_18 rfl rfl rfl (by show (_ : Nat) ≤ 0; omega) (by show (_ : Nat) ≤ 0; omega) ?_
  rw [show (if nI cap < nI len then nI cap else nI len) = nI len from if_neg (nI_nlt hl (by omega))]
  refine zz_istore C dJ3_charAt_21 (by decide) ?_
  refine zz_iload_n C dJ3_charAt_23 rfl ?_
  refine zz_iload C dJ3_charAt_24 rfl ?_
  refine zz_callS C zy_J5_checkIndex (ct_J5_checkIndex (by rw [hv0]; exact nI_pos (by omega)) (by rw [hv0]; exact nI_lt (by omega) (by omega))) rfl q1055 rfl rfl rfl rfl rfl dJ3_charAt_26 ⟨Nat.le_of_ble_eq_true rfl, Nat.le_of_ble_eq_true rfl⟩ (fun v hz hp => ?_)
  obtain ⟨rfl, ez⟩ := hp
  obtain rfl := ez.symm
  refine zz_iload_n C dJ3_charAt_29 rfl ?_
  refine zz_if_ne (tgt := 42) C dJ3_charAt_30 (by decide) (fun c30 => ?_) (fun c30 => ?_)
  · exact absurd rfl c30
  · first | refine zz_aload_n C dJ3_charAt_33 rfl ?_ | refine zz_aload_nN C dJ3_charAt_33 rfl ?_
    refine zz_iload_n C dJ3_charAt_34 rfl ?_
    refine zz_bald C (by first | assumption | exact zz_us | exact zz_lk1 (by assumption) (by assumption) | exact zz_lk3 (hd _ _ (by decide) (by decide) (by decide)) (by assumption) | exact zz_uf (by assumption) (by assumption) | exact zz_lk3 (zz_xi (by assumption) (by assumption)) (zz_lk1 (by assumption) (by assumption)) | exact zz_lk3 (hd _ _ (by decide) (by decide) (by decide)) (zz_lk3 (hd _ _ (by decide) (by decide) (by decide)) (by assumption)) | (simp only [zz_up]; simp_all; done)) hv0 (by omega) (by omega) dJ3_charAt_35 ?_
    refine zz_sipush (v := 255) C dJ3_charAt_36 (by decide) ?_
    refine zz_iand C dJ3_charAt_39 ?_
    refine zz_i2c C dJ3_charAt_40 ?_
    refine zz_zret0 C (pk_nc _) dJ3_charAt_41 rfl rfl ?_
    exact ⟨by rw [hg, sg_c q hq], rfl⟩

theorem ct_J4_charAt {l : Launch} {D : va_G} {b0 : Nat} {h : zz_H} {B va cap len : Nat} {ml : Int32} {g : Nat → Int32} {v0 : Int32} (j : Nat) (hv0 : v0 = nI j) (hj : j < len) (hl : len ≤ cap) (hcap : cap ≤ 1000) {q : Nat} (hq : q < 128) (hg : g j = nI q) (hB : h B = some (sg_F va ml len)) (hV : h va = some (sg_T D cap g))  : zz_Ct l D b0 yJ4_charAt cJ4_charAt 2 (some .char) 3 84 0 0 [.ref B, .int v0] h (fun v h' => v = some (.int (nI q)) ∧ h' = h) := by
  refine zz_Ct.of zy_J4_charAt.1 rfl ?_
  intro p e s m below meth c C
  first | refine zz_aload_n C dJ4_charAt_0 rfl ?_ | refine zz_aload_nN C dJ4_charAt_0 rfl ?_
  refine zz_iload_n C dJ4_charAt_1 rfl ?_
  refine zz_callSU (Cn := "java/lang/StringBuilder") C zy_J3_charAt (ct_J3_charAt j hv0 hj hl hcap hq hg hB hV) rfl q1051 q1602 q259 q1052 (by decide) (by first | assumption | exact zz_us | exact zz_lk1 (by assumption) (by assumption) | exact zz_lk3 (hd _ _ (by decide) (by decide) (by decide)) (by assumption) | exact zz_uf (by assumption) (by assumption) | exact zz_lk3 (zz_xi (by assumption) (by assumption)) (zz_lk1 (by assumption) (by assumption)) | exact zz_lk3 (hd _ _ (by decide) (by decide) (by decide)) (zz_lk3 (hd _ _ (by decide) (by decide) (by decide)) (by assumption)) | (simp only [zz_up]; simp_all; done)) rfl rfl rfl rfl rfl rfl dJ4_charAt_2 ⟨Nat.le_of_ble_eq_true rfl, Nat.le_of_ble_eq_true rfl⟩ (fun v hz hp => ?_)
  obtain ⟨rfl, ez⟩ := hp
  obtain rfl := ez.symm
  refine zz_zret0 C (by exact (pk_charN (by omega)).1) dJ4_charAt_5 rfl rfl ?_
  exact ⟨rfl, rfl⟩

theorem ct_J3_init {l : Launch} {D : va_G} {b0 : Nat} {h : zz_H} {B : Nat} (hB : h B = some (.inr (9, [.null, .int 0, .int 0, .int 0])))  : zz_Ct l D b0 yJ3_init cJ3_init 2 (none) 1 20 1 16 [.ref B, .int 16] h (fun v h' => ∃ va : Nat, v = none ∧ h va = none ∧ b0 ≤ va ∧ h' = zz_up (zz_up h va (sg_T D 16 (fun _ => 0))) B (sg_F va 0 0)) := by
  refine zz_Ct.of zy_J3_init.1 rfl ?_
  intro p e s m below meth c C
  first | refine zz_aload_n C dJ3_init_0 rfl ?_ | refine zz_aload_nN C dJ3_init_0 rfl ?_
  refine zz_objInit C rfl q237 q123 q124 dJ3_init_1 rfl rfl rfl ?_
  refine zz_gets C rfl (zz_sCOMPACT_STRINGS C) q238 (fun _ h => h) dJ3_init_4 ?_
  refine zz_if_eq (tgt := 25) C dJ3_init_7 (by decide) (fun c7 => ?_) (fun c7 => ?_)
  · exact absurd c7 (by decide)
  · first | refine zz_aload_n C dJ3_init_10 rfl ?_ | refine zz_aload_nN C dJ3_init_10 rfl ?_
    refine zz_iload_n C dJ3_init_11 rfl ?_
    refine zz_newB (N := 16) C rfl (by omega) rfl (by decide) dJ3_init_12 (fun o12 n12 b12 => ?_)
    refine zz_put C rfl (zz_uf hB n12) rfl in_J4 tyJ4 tyJ4_ok nmJ4 0 rfl q247 (fun _ h => h) rfl (tyJ4_ok 0 (by decide)) (by first | rfl | exact zz_narZ (by first | exact zz_b01 _ | assumption | decide)) rfl (Nat.le_of_ble_eq_true rfl) dJ3_init_14 ?_
    first | refine zz_aload_n C dJ3_init_17 rfl ?_ | refine zz_aload_nN C dJ3_init_17 rfl ?_
    refine zz_iconst (v := 0) C dJ3_init_18 (by decide) ?_
    refine zz_put C rfl (by first | assumption | exact zz_us | exact zz_lk1 (by assumption) (by assumption) | exact zz_lk3 (hd _ _ (by decide) (by decide) (by decide)) (by assumption) | exact zz_uf (by assumption) (by assumption) | exact zz_lk3 (zz_xi (by assumption) (by assumption)) (zz_lk1 (by assumption) (by assumption)) | exact zz_lk3 (hd _ _ (by decide) (by decide) (by decide)) (zz_lk3 (hd _ _ (by decide) (by decide) (by decide)) (by assumption)) | (simp only [zz_up]; simp_all; done)) rfl in_J4 tyJ4 tyJ4_ok nmJ4 1 rfl q248 (fun _ h => h) rfl (tyJ4_ok 1 (by decide)) (by first | rfl | exact zz_narZ (by first | exact zz_b01 _ | assumption | decide)) rfl (Nat.le_of_ble_eq_true rfl) dJ3_init_19 ?_
    refine zz_goto (tgt := 38) C dJ3_init_22 (by decide) ?_
    refine zz_vret C dJ3_init_38 rfl rfl ?_
    exact ⟨o12, rfl, n12, b12, by rw [zz_upup]; rfl⟩

theorem ct_J4_init {l : Launch} {D : va_G} {b0 : Nat} {h : zz_H} {B : Nat} (hB : h B = some (.inr (9, [.null, .int 0, .int 0, .int 0])))  : zz_Ct l D b0 yJ4_init cJ4_init 1 (none) 2 41 1 16 [.ref B] h (fun v h' => ∃ va : Nat, v = none ∧ h va = none ∧ b0 ≤ va ∧ h' = zz_up (zz_up h va (sg_T D 16 (fun _ => 0))) B (sg_F va 0 0)) := by
  refine zz_Ct.of zy_J4_init.1 rfl ?_
  intro p e s m below meth c C
  first | refine zz_aload_n C dJ4_init_0 rfl ?_ | refine zz_aload_nN C dJ4_init_0 rfl ?_
  refine zz_bipush (v := 16) C dJ4_init_1 (by decide) ?_
  refine zz_callI C zy_J3_init (ct_J3_init hB) rfl q234 rfl rfl rfl rfl rfl dJ4_init_3 ⟨Nat.le_of_ble_eq_true rfl, Nat.le_of_ble_eq_true rfl⟩ (fun v hz hp => ?_)
  obtain ⟨va, rfl, hvn, hvb, ez⟩ := hp
  obtain rfl := ez.symm
  refine zz_vret C dJ4_init_6 rfl rfl ?_
  exact ⟨va, rfl, hvn, hvb, rfl⟩

