/-! the library: the builder of texts, growing -/
theorem sg_shl (n : Nat) (h : n < 2 ^ 31) : nI n <<< ((0 : Int32) &&& 31) = nI n := by rw [pk_shlN _ 0 (by decide) (by omega), Nat.pow_zero, Nat.mul_one]
theorem sg_new (cap k : Nat) (h : k ≤ 2 * cap + 2) (hc : cap ≤ 1000) : nI cap + (if nI k - nI cap < nI cap + (2 : Int32) <<< ((0 : Int32) &&& 31) then nI cap + (2 : Int32) <<< ((0 : Int32) &&& 31) else nI k - nI cap) = nI (2 * cap + 2) := by
  rw [show (2 : Int32) <<< ((0 : Int32) &&& 31) = nI 2 from by decide, nI_add]
  by_cases hh : nI k - nI cap < nI (cap + 2)
  · rw [if_pos hh, nI_add]
    congr 1
    omega
  · rw [if_neg hh]
    have hk : cap ≤ k := Nat.le_of_not_lt (fun q => hh (Int32.lt_of_lt_of_le (pk_sneg (by omega) q) (nI_pos' (by omega))))
    rw [pk_sub hk] at hh ⊢
    rw [nI_add]
    have : ¬ k - cap < cap + 2 := fun q => hh (nI_lt q (by omega))
    congr 1
    omega
/-- bytes are bytes -/
def sg_B (g : Nat → Int32) : Prop := ∀ i : Nat, fits .byte (.int (g i)) = true
theorem sg_B.cp {g : Nat → Int32} (h : sg_B g) (n : Nat) : sg_B (va_cpy g (fun _ => 0) 0 0 n) := fun i => by
  by_cases hi : i < n
  · rw [pk_cpy_in (by omega) (by omega)]; exact h _
  · rw [pk_cpy_out (by omega)]; rfl
theorem sg_B.up {g : Nat → Int32} (h : sg_B g) (k q : Nat) (hq : q < 128) : sg_B (upd g k (nI q)) := fun i => by
  by_cases hi : i = k
  · rw [hi, up_s]
    exact (show ∀ q : Nat, q < 128 → fits .byte (.int (nI q)) = true from by decide +kernel) q hq
  · rw [up_n hi]; exact h i
def sg_R (b0 : Nat) (h : zz_H) (va len cap : Nat) (g : Nat → Int32) (va' cap' : Nat) (g' : Nat → Int32) : Prop := (va' = va ∨ (h va' = none ∧ b0 ≤ va')) ∧ (cap' = cap ∨ cap' = 2 * cap + 2) ∧ (∀ i : Nat, i < len → g' i = g i) ∧ sg_B g'

theorem ct_J12_copyOf_3 {l : Launch} {D : va_G} {b0 : Nat} {h : zz_H} {va cap : Nat} {g : Nat → Int32} {N : Nat} {v1 : Int32} (hv1 : v1 = nI N) (hN : cap < N) (hN2 : N ≤ 1000) (hfb : sg_B g) (hV : h va = some (sg_T D cap g))  : zz_Ct l D b0 yJ12_copyOf_3 cJ12_copyOf_3 3 (some (.array .byte)) 1 60 1 1000 [.ref va, .int v1] h (fun v h' => ∃ o : Nat, v = some (.ref o) ∧ h o = none ∧ b0 ≤ o ∧ h' = zz_up h o (sg_T D N (va_cpy g (fun _ => 0) 0 0 cap))) := by
  refine zz_Ct.of zy_J12_copyOf_3.1 rfl ?_
  intro p e s m below meth c C
  refine zz_iload_n C dJ12_copyOf_3_0 rfl ?_
  first | refine zz_aload_n C dJ12_copyOf_3_1 rfl ?_ | refine zz_aload_nN C dJ12_copyOf_3_1 rfl ?_
  refine zz_alen C (by first | assumption | exact zz_us | exact zz_lk1 (by assumption) (by assumption) | exact zz_lk3 (hd _ _ (by decide) (by decide) (by decide)) (by assumption) | exact zz_uf (by assumption) (by assumption) | exact zz_lk3 (zz_xi (by assumption) (by assumption)) (zz_lk1 (by assumption) (by assumption)) | exact zz_lk3 (hd _ _ (by decide) (by decide) (by decide)) (zz_lk3 (hd _ _ (by decide) (by decide) (by decide)) (by assumption)) | (simp only [zz_up]; simp_all; done)) 2 rfl dJ12_copyOf_3_2 ?_
  refine zz_icmp_ne (tgt := 14) C dJ12_copyOf_3_3 (by decide) (fun c3 => ?_) (fun c3 => ?_)
  · refine zz_iload_n C dJ12_copyOf_3_14 rfl ?_
    refine zz_newB (N := N) C hv1 (by omega) rfl (by first | decide | (show (_ : Nat) ≤ 1000; omega)) dJ12_copyOf_3_15 (fun o15 n15 b15 => ?_)
    refine zz_astore_n C dJ12_copyOf_3_17 (by decide) ?_
    first | refine zz_aload_n C dJ12_copyOf_3_18 rfl ?_ | refine zz_aload_nN C dJ12_copyOf_3_18 rfl ?_
    refine zz_iconst (v := 0) C dJ12_copyOf_3_19 (by decide) ?_
    first | refine zz_aload_n C dJ12_copyOf_3_20 rfl ?_ | refine zz_aload_nN C dJ12_copyOf_3_20 rfl ?_
    refine zz_iconst (v := 0) C dJ12_copyOf_3_21 (by decide) ?_
    first | refine zz_aload_n C dJ12_copyOf_3_22 rfl ?_ | refine zz_aload_nN C dJ12_copyOf_3_22 rfl ?_
    refine zz_alen C (zz_uf hV n15) 2 rfl dJ12_copyOf_3_23 ?_
    refine zz_iload_n C dJ12_copyOf_3_24 rfl ?_
    refine zz_mmin C rfl q491 dJ12_copyOf_3_25 rfl rfl rfl (by show (_ : Nat) ≤ 1; omega) (by show (_ : Nat) ≤ 1000; omega) ?_
    refine zz_copyB (i := 0) (j := 0) (k := cap) C rfl q494 q101 (zz_uf hV n15) zz_us hfb rfl rfl (show (if v1 < nI cap then v1 else nI cap) = nI cap from if_neg (by rw [hv1]; exact nI_nlt (by omega) (by omega))) (by omega) (by omega) (by omega) (by omega) rfl rfl rfl dJ12_copyOf_3_28 ?_
    first | refine zz_aload_n C dJ12_copyOf_3_31 rfl ?_ | refine zz_aload_nN C dJ12_copyOf_3_31 rfl ?_
    refine zz_aret C (Or.inr ⟨_, rfl⟩) (Or.inr ⟨_, rfl⟩) dJ12_copyOf_3_32 (by first | rfl | exact Nat.ble_eq.mpr (by omega)) (by first | rfl | exact Nat.ble_eq.mpr (by omega)) ?_
    exact ⟨o15, rfl, n15, b15, zz_upup⟩
  · exact absurd ((nI_eq (by omega) (by omega)).mp (hv1.symm.trans c3)) (by omega)

theorem ct_J3_newCapacity {l : Launch} {D : va_G} {b0 : Nat} {h : zz_H} {B va cap len : Nat} {ml : Int32} {g : Nat → Int32} {v1 : Int32} (k : Nat) (hv1 : v1 = nI k) (hk : k ≤ 2 * cap + 2) (hcap : cap ≤ 400) (hB : h B = some (sg_F va ml len)) (hV : h va = some (sg_T D cap g))  : zz_Ct l D b0 yJ3_newCapacity cJ3_newCapacity 6 (some .int) 2 83 0 0 [.ref B, .int v1] h (fun v h' => v = some (.int (nI (2 * cap + 2))) ∧ h' = h) := by
  refine zz_Ct.of zy_J3_newCapacity rfl ?_
  intro p e s m below meth c C
  first | refine zz_aload_n C dJ3_newCapacity_0 rfl ?_ | refine zz_aload_nN C dJ3_newCapacity_0 rfl ?_
  refine zz_get C rfl (by first | assumption | exact zz_us | exact zz_lk1 (by assumption) (by assumption) | exact zz_lk3 (hd _ _ (by decide) (by decide) (by decide)) (by assumption) | exact zz_uf (by assumption) (by assumption) | exact zz_lk3 (zz_xi (by assumption) (by assumption)) (zz_lk1 (by assumption) (by assumption)) | exact zz_lk3 (hd _ _ (by decide) (by decide) (by decide)) (zz_lk3 (hd _ _ (by decide) (by decide) (by decide)) (by assumption)) | (simp only [zz_up]; simp_all; done)) rfl in_J4 0 rfl q247 (fun _ h => h) (by first | rfl | assumption) dJ3_newCapacity_1 ?_
  refine zz_alen C (by first | assumption | exact zz_us | exact zz_lk1 (by assumption) (by assumption) | exact zz_lk3 (hd _ _ (by decide) (by decide) (by decide)) (by assumption) | exact zz_uf (by assumption) (by assumption) | exact zz_lk3 (zz_xi (by assumption) (by assumption)) (zz_lk1 (by assumption) (by assumption)) | exact zz_lk3 (hd _ _ (by decide) (by decide) (by decide)) (zz_lk3 (hd _ _ (by decide) (by decide) (by decide)) (by assumption)) | (simp only [zz_up]; simp_all; done)) 2 rfl dJ3_newCapacity_4 ?_
  refine zz_istore_n C dJ3_newCapacity_5 (by decide) ?_
  refine zz_iload_n C dJ3_newCapacity_6 rfl ?_
  first | refine zz_aload_n C dJ3_newCapacity_7 rfl ?_ | refine zz_aload_nN C dJ3_newCapacity_7 rfl ?_
  refine zz_get C rfl (by first | assumption | exact zz_us | exact zz_lk1 (by assumption) (by assumption) | exact zz_lk3 (hd _ _ (by decide) (by decide) (by decide)) (by assumption) | exact zz_uf (by assumption) (by assumption) | exact zz_lk3 (zz_xi (by assumption) (by assumption)) (zz_lk1 (by assumption) (by assumption)) | exact zz_lk3 (hd _ _ (by decide) (by decide) (by decide)) (zz_lk3 (hd _ _ (by decide) (by decide) (by decide)) (by assumption)) | (simp only [zz_up]; simp_all; done)) rfl in_J4 1 rfl q248 (fun _ h => h) (by first | rfl | assumption) dJ3_newCapacity_8 ?_
  refine zz_ishl C dJ3_newCapacity_11 ?_
  rw [show v1 <<< ((0 : Int32) &&& 31) = nI k from by rw [hv1]; exact sg_shl k (by omega)]
  refine zz_istore_n C dJ3_newCapacity_12 (by decide) ?_
  refine zz_iload_n C dJ3_newCapacity_13 rfl ?_
  refine zz_iload_n C dJ3_newCapacity_14 rfl ?_
  refine zz_isub C dJ3_newCapacity_15 ?_
  refine zz_istore C dJ3_newCapacity_16 (by decide) ?_
  refine zz_iload_n C dJ3_newCapacity_18 rfl ?_
  refine zz_iload C dJ3_newCapacity_19 rfl ?_
  refine zz_iload_n C dJ3_newCapacity_21 rfl ?_
  refine zz_iconst (v := 2) C dJ3_newCapacity_22 (by decide) ?_
  first | refine zz_aload_n C dJ3_newCapacity_23 rfl ?_ | refine zz_aload_nN C dJ3_newCapacity_23 rfl ?_
  refine zz_get C rfl (by first | assumption | exact zz_us | exact zz_lk1 (by assumption) (by assumption) | exact zz_lk3 (hd _ _ (by decide) (by decide) (by decide)) (by assumption) | exact zz_uf (by assumption) (by assumption) | exact zz_lk3 (zz_xi (by assumption) (by assumption)) (zz_lk1 (by assumption) (by assumption)) | exact zz_lk3 (hd _ _ (by decide) (by decide) (by decide)) (zz_lk3 (hd _ _ (by decide) (by decide) (by decide)) (by assumption)) | (simp only [zz_up]; simp_all; done)) rfl in_J4 1 rfl q248 (fun _ h => h) (by first | rfl | assumption) dJ3_newCapacity_24 ?_
  refine zz_ishl C dJ3_newCapacity_27 ?_
  refine zz_iadd C dJ3_newCapacity_28 ?_
  refine zz_callS C zy_J10_newLength (ct_J10_newLength (by rw [sg_new cap k hk (by omega)]; exact fun q => absurd ((nI_leI (a := 2 * cap + 2) (b := 0) (by omega) (by omega)).mp q) (by omega)) (by rw [sg_new cap k hk (by omega)]; exact nI_le (a := 2 * cap + 2) (b := 2147483639) (by omega) (by omega))) rfl q941 rfl rfl rfl rfl rfl dJ3_newCapacity_29 ⟨Nat.le_of_ble_eq_true rfl, Nat.le_of_ble_eq_true rfl⟩ (fun v hz hp => ?_)
  obtain ⟨rfl, ez⟩ := hp
  obtain rfl := ez.symm
  rw [sg_new cap k hk (by omega)]
  refine zz_istore C dJ3_newCapacity_32 (by decide) ?_
  refine zz_iload C dJ3_newCapacity_34 rfl ?_
  refine zz_ldc C rfl q942 dJ3_newCapacity_36 ?_
  refine zz_icmp_ne (tgt := 51) C dJ3_newCapacity_38 (by decide) (fun c38 => ?_) (fun c38 => ?_)
  · refine zz_iload C dJ3_newCapacity_51 rfl ?_
    first | refine zz_aload_n C dJ3_newCapacity_53 rfl ?_ | refine zz_aload_nN C dJ3_newCapacity_53 rfl ?_
    refine zz_get C rfl (by first | assumption | exact zz_us | exact zz_lk1 (by assumption) (by assumption) | exact zz_lk3 (hd _ _ (by decide) (by decide) (by decide)) (by assumption) | exact zz_uf (by assumption) (by assumption) | exact zz_lk3 (zz_xi (by assumption) (by assumption)) (zz_lk1 (by assumption) (by assumption)) | exact zz_lk3 (hd _ _ (by decide) (by decide) (by decide)) (zz_lk3 (hd _ _ (by decide) (by decide) (by decide)) (by assumption)) | (simp only [zz_up]; simp_all; done)) rfl in_J4 1 rfl q248 (fun _ h => h) (by first | rfl | assumption) dJ3_newCapacity_54 ?_
    refine zz_ishr C dJ3_newCapacity_57 ?_
    rw [sg_sh (2 * cap + 2) (by omega)]
    refine zz_iret C dJ3_newCapacity_58 rfl rfl ?_
    exact ⟨rfl, rfl⟩
  · exact absurd ((nI_eq (a := 2 * cap + 2) (b := 2147483647) (by omega) (by omega)).mp c38) (by omega)

