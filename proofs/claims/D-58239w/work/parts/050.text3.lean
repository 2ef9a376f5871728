/-! the library: the builder of texts, a character more -/
theorem ct_J3_ensureCapacityInternal {l : Launch} {D : va_G} {b0 : Nat} {h : zz_H} {B va cap len : Nat} {ml : Int32} {g : Nat → Int32} {v1 : Int32} (k : Nat) (hv1 : v1 = nI k) (hk : k ≤ 2 * cap + 2) (hcap : cap ≤ 200) (hlc : len ≤ cap) (hfb : sg_B g) (hB : h B = some (sg_F va ml len)) (hV : h va = some (sg_T D cap g))  : zz_Ct l D b0 yJ3_ensureCapacityInternal cJ3_ensureCapacityInternal 3 (none) 3 108 1 1000 [.ref B, .int v1] h (fun v h' => ∃ (va' cap' : Nat) (g' : Nat → Int32), v = none ∧ h' = zz_up (zz_up h va' (sg_T D cap' g')) B (sg_F va' ml len) ∧ sg_R b0 h va len cap g va' cap' g' ∧ k ≤ cap' ∧ (cap' = cap ∨ cap < k)) := by
  refine zz_Ct.of zy_J3_ensureCapacityInternal rfl ?_
  intro p e s m below meth c C
  first | refine zz_aload_n C dJ3_ensureCapacityInternal_0 rfl ?_ | refine zz_aload_nN C dJ3_ensureCapacityInternal_0 rfl ?_
  refine zz_get C rfl (by first | assumption | exact zz_us | exact zz_lk1 (by assumption) (by assumption) | exact zz_lk3 (hd _ _ (by decide) (by decide) (by decide)) (by assumption) | exact zz_uf (by assumption) (by assumption) | exact zz_lk3 (zz_xi (by assumption) (by assumption)) (zz_lk1 (by assumption) (by assumption)) | exact zz_lk3 (hd _ _ (by decide) (by decide) (by decide)) (zz_lk3 (hd _ _ (by decide) (by decide) (by decide)) (by assumption)) | (simp only [zz_up]; simp_all; done)) rfl in_J4 0 rfl q247 (fun _ h => h) (by first | rfl | assumption) dJ3_ensureCapacityInternal_1 ?_
  refine zz_alen C (by first | assumption | exact zz_us | exact zz_lk1 (by assumption) (by assumption) | exact zz_lk3 (hd _ _ (by decide) (by decide) (by decide)) (by assumption) | exact zz_uf (by assumption) (by assumption) | exact zz_lk3 (zz_xi (by assumption) (by assumption)) (zz_lk1 (by assumption) (by assumption)) | exact zz_lk3 (hd _ _ (by decide) (by decide) (by decide)) (zz_lk3 (hd _ _ (by decide) (by decide) (by decide)) (by assumption)) | (simp only [zz_up]; simp_all; done)) 2 rfl dJ3_ensureCapacityInternal_4 ?_
  first | refine zz_aload_n C dJ3_ensureCapacityInternal_5 rfl ?_ | refine zz_aload_nN C dJ3_ensureCapacityInternal_5 rfl ?_
  refine zz_get C rfl (by first | assumption | exact zz_us | exact zz_lk1 (by assumption) (by assumption) | exact zz_lk3 (hd _ _ (by decide) (by decide) (by decide)) (by assumption) | exact zz_uf (by assumption) (by assumption) | exact zz_lk3 (zz_xi (by assumption) (by assumption)) (zz_lk1 (by assumption) (by assumption)) | exact zz_lk3 (hd _ _ (by decide) (by decide) (by decide)) (zz_lk3 (hd _ _ (by decide) (by decide) (by decide)) (by assumption)) | (simp only [zz_up]; simp_all; done)) rfl in_J4 1 rfl q248 (fun _ h => h) (by first | rfl | assumption) dJ3_ensureCapacityInternal_6 ?_
  refine zz_ishr C dJ3_ensureCapacityInternal_9 ?_
  rw [sg_sh cap (by omega)]
  refine zz_istore_n C dJ3_ensureCapacityInternal_10 (by decide) ?_
  refine zz_iload_n C dJ3_ensureCapacityInternal_11 rfl ?_
  refine zz_iload_n C dJ3_ensureCapacityInternal_12 rfl ?_
  refine zz_isub C dJ3_ensureCapacityInternal_13 ?_
  refine zz_if_le (tgt := 38) C dJ3_ensureCapacityInternal_14 (by decide) (fun c14 => ?_) (fun c14 => ?_)
  · have hkc : k ≤ cap := Nat.le_of_not_lt (fun q => absurd c14 (by rw [hv1, pk_sub (by omega)]; exact fun g => absurd ((nI_leI (a := k - cap) (b := 0) (by omega) (by omega)).mp g) (by omega)))
    refine zz_vret C dJ3_ensureCapacityInternal_38 rfl rfl ?_
    first
    | exact ⟨va, cap, g, rfl, by rw [zz_upsame hV, zz_upsame hB], ⟨Or.inl rfl, Or.inl rfl, fun _ _ => rfl, hfb⟩, hkc, Or.inl rfl⟩
    | exact ⟨o, 2 * cap + 2, _, rfl, rfl, ⟨Or.inr ⟨n0, bo⟩, Or.inr rfl, fun i hi => by rw [pk_cpy_in (by omega) (by omega), Nat.zero_add, Nat.sub_zero], hfb.cp cap⟩, hk, Or.inr hkc⟩
  · have hkc : cap < k := Nat.not_le.mp (fun q => c14 (by
      rw [hv1]
      by_cases e : k = cap
      · rw [e, pk_sub (Nat.le_refl _), Nat.sub_self]; decide
      · exact Int32.le_of_lt (pk_sneg (by omega) (by omega))))
    first | refine zz_aload_n C dJ3_ensureCapacityInternal_17 rfl ?_ | refine zz_aload_nN C dJ3_ensureCapacityInternal_17 rfl ?_
    first | refine zz_aload_n C dJ3_ensureCapacityInternal_18 rfl ?_ | refine zz_aload_nN C dJ3_ensureCapacityInternal_18 rfl ?_
    refine zz_get C rfl (by first | assumption | exact zz_us | exact zz_lk1 (by assumption) (by assumption) | exact zz_lk3 (hd _ _ (by decide) (by decide) (by decide)) (by assumption) | exact zz_uf (by assumption) (by assumption) | exact zz_lk3 (zz_xi (by assumption) (by assumption)) (zz_lk1 (by assumption) (by assumption)) | exact zz_lk3 (hd _ _ (by decide) (by decide) (by decide)) (zz_lk3 (hd _ _ (by decide) (by decide) (by decide)) (by assumption)) | (simp only [zz_up]; simp_all; done)) rfl in_J4 0 rfl q247 (fun _ h => h) (by first | rfl | assumption) dJ3_ensureCapacityInternal_19 ?_
    first | refine zz_aload_n C dJ3_ensureCapacityInternal_22 rfl ?_ | refine zz_aload_nN C dJ3_ensureCapacityInternal_22 rfl ?_
    refine zz_iload_n C dJ3_ensureCapacityInternal_23 rfl ?_
    refine zz_callP (Cn := "java/lang/StringBuilder") (owner := "java/lang/AbstractStringBuilder") (x2 := yJ3_newCapacity) C zy_J3_newCapacity (ct_J3_newCapacity k hv1 hk (by omega) hB hV) rfl q937 q1599 (by first | exact List.mem_cons_self | exact List.mem_cons_of_mem _ List.mem_cons_self) q939 rfl zy_J3_newCapacity.1 (by first | assumption | exact zz_us | exact zz_lk1 (by assumption) (by assumption) | exact zz_lk3 (hd _ _ (by decide) (by decide) (by decide)) (by assumption) | exact zz_uf (by assumption) (by assumption) | exact zz_lk3 (zz_xi (by assumption) (by assumption)) (zz_lk1 (by assumption) (by assumption)) | exact zz_lk3 (hd _ _ (by decide) (by decide) (by decide)) (zz_lk3 (hd _ _ (by decide) (by decide) (by decide)) (by assumption)) | (simp only [zz_up]; simp_all; done)) rfl rfl rfl rfl rfl rfl dJ3_ensureCapacityInternal_24 ⟨Nat.le_of_ble_eq_true rfl, Nat.le_of_ble_eq_true rfl⟩ (fun v hz hp => ?_)
    obtain ⟨rfl, ez⟩ := hp
    obtain rfl := ez.symm
    first | refine zz_aload_n C dJ3_ensureCapacityInternal_27 rfl ?_ | refine zz_aload_nN C dJ3_ensureCapacityInternal_27 rfl ?_
    refine zz_get C rfl (by first | assumption | exact zz_us | exact zz_lk1 (by assumption) (by assumption) | exact zz_lk3 (hd _ _ (by decide) (by decide) (by decide)) (by assumption) | exact zz_uf (by assumption) (by assumption) | exact zz_lk3 (zz_xi (by assumption) (by assumption)) (zz_lk1 (by assumption) (by assumption)) | exact zz_lk3 (hd _ _ (by decide) (by decide) (by decide)) (zz_lk3 (hd _ _ (by decide) (by decide) (by decide)) (by assumption)) | (simp only [zz_up]; simp_all; done)) rfl in_J4 1 rfl q248 (fun _ h => h) (by first | rfl | assumption) dJ3_ensureCapacityInternal_28 ?_
    refine zz_ishl C dJ3_ensureCapacityInternal_31 ?_
    rw [sg_shl (2 * cap + 2) (by omega)]
    refine zz_callS C zy_J12_copyOf_3 (ct_J12_copyOf_3 rfl (by omega) (by omega) hfb hV) rfl q943 rfl rfl rfl rfl rfl dJ3_ensureCapacityInternal_32 ⟨Nat.le_of_ble_eq_true rfl, Nat.le_of_ble_eq_true rfl⟩ (fun v hz hp => ?_)
    obtain ⟨o, rfl, n0, bo, ez⟩ := hp
    obtain rfl := ez.symm
    refine zz_put C rfl (zz_uf hB n0) rfl in_J4 tyJ4 tyJ4_ok nmJ4 0 rfl q247 (fun _ h => h) rfl (tyJ4_ok 0 (by decide)) (by first | rfl | exact zz_narZ (by first | exact zz_b01 _ | assumption | decide)) rfl (Nat.le_of_ble_eq_true rfl) dJ3_ensureCapacityInternal_35 ?_
    refine zz_vret C dJ3_ensureCapacityInternal_38 rfl rfl ?_
    first
    | exact ⟨va, cap, g, rfl, by rw [zz_upsame hV, zz_upsame hB], ⟨Or.inl rfl, Or.inl rfl, fun _ _ => rfl, hfb⟩, hkc, Or.inl rfl⟩
    | exact ⟨o, 2 * cap + 2, _, rfl, rfl, ⟨Or.inr ⟨n0, bo⟩, Or.inr rfl, fun i hi => by rw [pk_cpy_in (by omega) (by omega), Nat.zero_add, Nat.sub_zero], hfb.cp cap⟩, hk, Or.inr hkc⟩

