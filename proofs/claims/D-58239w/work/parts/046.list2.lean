/-! the library: lists that grow and shrink -/
theorem ct_J10_newLength {l : Launch} {D : va_G} {b0 : Nat} {h : zz_H} {v0 v1 v2 : Int32} (h0 : ¬ v0 + (if v1 < v2 then v2 else v1) ≤ 0) (h1 : v0 + (if v1 < v2 then v2 else v1) ≤ 2147483639)  : zz_Ct l D b0 yJ10_newLength cJ10_newLength 4 (some .int) 1 60 0 0 [.int v0, .int v1, .int v2] h (fun v h' => v = some (.int (v0 + (if v1 < v2 then v2 else v1))) ∧ h' = h) := by
  refine zz_Ct.of zy_J10_newLength.1 rfl ?_
  intro p e s m below meth c C
  refine zz_iload_n C dJ10_newLength_0 rfl ?_
  refine zz_iload_n C dJ10_newLength_1 rfl ?_
  refine zz_iload_n C dJ10_newLength_2 rfl ?_
  refine zz_mmax C rfl q461 dJ10_newLength_3 rfl rfl rfl (by show (_ : Nat) ≤ 0; omega) (by show (_ : Nat) ≤ 0; omega) ?_
  refine zz_iadd C dJ10_newLength_6 ?_
  refine zz_istore_n C dJ10_newLength_7 (by decide) ?_
  refine zz_iconst (v := 0) C dJ10_newLength_8 (by decide) ?_
  refine zz_iload_n C dJ10_newLength_9 rfl ?_
  refine zz_icmp_ge (tgt := 21) C dJ10_newLength_10 (by decide) (fun c10 => ?_) (fun c10 => ?_)
  · exact absurd c10 h0
  · refine zz_iload_n C dJ10_newLength_13 rfl ?_
    refine zz_ldc C rfl q464 dJ10_newLength_14 ?_
    refine zz_icmp_gt (tgt := 21) C dJ10_newLength_16 (by decide) (fun c16 => ?_) (fun c16 => ?_)
    · exact absurd c16 (Int32.not_lt.mpr h1)
    · refine zz_iload_n C dJ10_newLength_19 rfl ?_
      refine zz_iret C dJ10_newLength_20 rfl rfl ?_
      exact ⟨rfl, rfl⟩

theorem ct_J12_copyOf_2 {l : Launch} {D : va_G} {b0 : Nat} {h : zz_H} {a cap N : Nat} {f : Nat → Option Nat} (hA : h a = some (li_T D cap f)) (hcap : cap ≤ N) (hN : N ≤ 160) (hel : ∀ t : Nat, t < cap → ∀ x : Nat, f t = some x → zz_any D h x) {v1 : Int32} (hv1 : v1 = nI N)  : zz_Ct l D b0 yJ12_copyOf_2 cJ12_copyOf_2 4 (some (.array (.object "java/lang/Object"))) 1 60 1 160 [.ref a, .int v1, .ref (D.2 1000 6)] h (fun v h' => ∃ o : Nat, v = some (.ref o) ∧ h o = none ∧ b0 ≤ o ∧ h' = zz_up h o (li_T D N (va_cpy f (fun _ => none) 0 0 cap))) := by
  refine zz_Ct.of zy_J12_copyOf_2.1 rfl ?_
  intro p e s m below meth c C
  first | refine zz_aload_n C dJ12_copyOf_2_0 rfl ?_ | refine zz_aload_nN C dJ12_copyOf_2_0 rfl ?_
  refine zz_ldcM C rfl q488 dJ12_copyOf_2_1 ?_
  refine zz_acmp_ne (tgt := 13) C dJ12_copyOf_2_3 (by decide) (fun c3 => ?_) (fun c3 => ?_)
  · exact absurd rfl c3
  · refine zz_iload_n C dJ12_copyOf_2_6 rfl ?_
    refine zz_newO (N := N) C rfl q490 hv1 (by omega) rfl (by show (_ : Nat) ≤ 160; omega) dJ12_copyOf_2_7 (fun o7 n7 b7 => ?_)
    refine zz_goto (tgt := 24) C dJ12_copyOf_2_10 (by decide) ?_
    refine zz_astore_n C dJ12_copyOf_2_24 (by decide) ?_
    first | refine zz_aload_n C dJ12_copyOf_2_25 rfl ?_ | refine zz_aload_nN C dJ12_copyOf_2_25 rfl ?_
    refine zz_iconst (v := 0) C dJ12_copyOf_2_26 (by decide) ?_
    first | refine zz_aload_n C dJ12_copyOf_2_27 rfl ?_ | refine zz_aload_nN C dJ12_copyOf_2_27 rfl ?_
    refine zz_iconst (v := 0) C dJ12_copyOf_2_28 (by decide) ?_
    first | refine zz_aload_n C dJ12_copyOf_2_29 rfl ?_ | refine zz_aload_nN C dJ12_copyOf_2_29 rfl ?_
    refine zz_alen C (zz_uf hA n7) 3 rfl dJ12_copyOf_2_30 ?_
    refine zz_iload_n C dJ12_copyOf_2_31 rfl ?_
    refine zz_mmin C rfl q491 dJ12_copyOf_2_32 rfl rfl rfl (by show (_ : Nat) ≤ 1; omega) (by show (_ : Nat) ≤ 160; omega) ?_
    refine zz_copyO (i := 0) (j := 0) (k := cap) C rfl q494 q101 (zz_uf hA n7) zz_us rfl rfl (show (if v1 < nI cap then v1 else nI cap) = nI cap from if_neg (by rw [hv1]; exact nI_nlt hcap (by omega))) (by omega) (by omega) (by omega) (by omega) (fun t ht x hx => (hel t ht x (by rw [Nat.zero_add] at hx; exact hx)).up n7) rfl rfl rfl dJ12_copyOf_2_35 ?_
    first | refine zz_aload_n C dJ12_copyOf_2_38 rfl ?_ | refine zz_aload_nN C dJ12_copyOf_2_38 rfl ?_
    refine zz_aret C (Or.inr ⟨_, rfl⟩) (Or.inr ⟨_, rfl⟩) dJ12_copyOf_2_39 (by first | rfl | exact Nat.ble_eq.mpr (by omega)) (by first | rfl | exact Nat.ble_eq.mpr (by omega)) ?_
    exact ⟨o7, rfl, n7, b7, zz_upup⟩

theorem ct_J12_copyOf {l : Launch} {D : va_G} {b0 : Nat} {h : zz_H} {a cap N : Nat} {f : Nat → Option Nat} (hA : h a = some (li_T D cap f)) (hcap : cap ≤ N) (hN : N ≤ 160) (hel : ∀ t : Nat, t < cap → ∀ x : Nat, f t = some x → zz_any D h x) {v1 : Int32} (hv1 : v1 = nI N)  : zz_Ct l D b0 yJ12_copyOf cJ12_copyOf 2 (some (.array (.object "java/lang/Object"))) 2 83 1 160 [.ref a, .int v1] h (fun v h' => ∃ o : Nat, v = some (.ref o) ∧ h o = none ∧ b0 ≤ o ∧ h' = zz_up h o (li_T D N (va_cpy f (fun _ => none) 0 0 cap))) := by
  refine zz_Ct.of zy_J12_copyOf.1 rfl ?_
  intro p e s m below meth c C
  first | refine zz_aload_n C dJ12_copyOf_0 rfl ?_ | refine zz_aload_nN C dJ12_copyOf_0 rfl ?_
  refine zz_iload_n C dJ12_copyOf_1 rfl ?_
  first | refine zz_aload_n C dJ12_copyOf_2 rfl ?_ | refine zz_aload_nN C dJ12_copyOf_2 rfl ?_
  refine zz_getC C rfl q471 (by first | assumption | exact zz_us | exact zz_lk1 (by assumption) (by assumption) | exact zz_lk3 (hd _ _ (by decide) (by decide) (by decide)) (by assumption) | exact zz_uf (by assumption) (by assumption) | exact zz_lk3 (zz_xi (by assumption) (by assumption)) (zz_lk1 (by assumption) (by assumption)) | exact zz_lk3 (hd _ _ (by decide) (by decide) (by decide)) (zz_lk3 (hd _ _ (by decide) (by decide) (by decide)) (by assumption)) | (simp only [zz_up]; simp_all; done)) rfl rfl rfl dJ12_copyOf_3 ?_
  refine zz_callS C zy_J12_copyOf_2 (ct_J12_copyOf_2 hA hcap hN hel hv1) rfl q485 rfl rfl rfl rfl rfl dJ12_copyOf_6 ⟨Nat.le_of_ble_eq_true rfl, Nat.le_of_ble_eq_true rfl⟩ (fun v hz hp => ?_)
  obtain ⟨o, rfl, n0, b0, ez⟩ := hp
  refine zz_aret C (Or.inr ⟨_, rfl⟩) (Or.inr ⟨_, rfl⟩) dJ12_copyOf_9 rfl rfl ?_
  exact ⟨o, rfl, n0, b0, ez⟩

theorem li_new (cap : Nat) (hc : cap ≤ 100) : nI cap + (if nI (cap + 1) - nI cap < nI cap >>> ((1 : Int32) &&& 31) then nI cap >>> ((1 : Int32) &&& 31) else nI (cap + 1) - nI cap) = nI (cap + (if 1 < cap / 2 then cap / 2 else 1)) := by
  rw [pk_sub (by omega), show cap + 1 - cap = 1 by omega, pk_shrN (by omega) _ 1 (by decide)]
  by_cases h : 1 < cap / 2 ^ 1
  · rw [if_pos (nI_lt h (by omega)), if_pos h, nI_add]
  · rw [if_neg (fun q => h ((nI_ltI (by omega) (by omega)).mp q)), if_neg h, nI_add]
theorem li_cpy0 {f : Nat → Option Nat} : va_cpy f (fun _ => none) 0 0 0 = (fun _ => none : Nat → Option Nat) := by
  funext j
  exact pk_cpy_out (by omega)
theorem ct_J2_grow_2 {l : Launch} {D : va_G} {b0 : Nat} {h : zz_H} {L ar n : Nat} {mc : Int32} {cap : Nat} {f : Nat → Option Nat} {v1 : Int32} (hv1 : v1 = nI (cap + 1)) (hA : (h ar = some (li_T D cap f) ∧ 0 < cap) ∨ (ar = D.2 1000 3 ∧ cap = 0)) (hcap : cap ≤ 100) (hel : ∀ t : Nat, t < cap → ∀ x : Nat, f t = some x → zz_any D h x) (hL : h L = some (li_F mc ar n))  : zz_Ct l D b0 yJ2_grow_2 cJ2_grow_2 4 (some (.array (.object "java/lang/Object"))) 3 104 1 160 [.ref L, .int v1] h (fun v h' => ∃ o N : Nat, v = some (.ref o) ∧ h o = none ∧ b0 ≤ o ∧ cap < N ∧ N ≤ cap + cap / 2 + 10 ∧ h' = zz_up (zz_up h o (li_T D N (va_cpy f (fun _ => none) 0 0 cap))) L (li_F mc o n)) := by
  refine zz_Ct.of zy_J2_grow_2.1 rfl ?_
  intro p e s m below meth c C
  rcases hA with ⟨hAr, hc0⟩ | ⟨rfl, rfl⟩
  · skip
    first | refine zz_aload_n C dJ2_grow_2_0 rfl ?_ | refine zz_aload_nN C dJ2_grow_2_0 rfl ?_
    refine zz_get C rfl (by first | assumption | exact zz_us | exact zz_lk1 (by assumption) (by assumption) | exact zz_lk3 (hd _ _ (by decide) (by decide) (by decide)) (by assumption) | exact zz_uf (by assumption) (by assumption) | exact zz_lk3 (zz_xi (by assumption) (by assumption)) (zz_lk1 (by assumption) (by assumption)) | exact zz_lk3 (hd _ _ (by decide) (by decide) (by decide)) (zz_lk3 (hd _ _ (by decide) (by decide) (by decide)) (by assumption)) | (simp only [zz_up]; simp_all; done)) rfl in_J2 1 rfl q157 (fun _ h => h) (by first | rfl | assumption) dJ2_grow_2_1 ?_
    refine zz_alen C (by first | assumption | exact zz_us | exact zz_lk1 (by assumption) (by assumption) | exact zz_lk3 (hd _ _ (by decide) (by decide) (by decide)) (by assumption) | exact zz_uf (by assumption) (by assumption) | exact zz_lk3 (zz_xi (by assumption) (by assumption)) (zz_lk1 (by assumption) (by assumption)) | exact zz_lk3 (hd _ _ (by decide) (by decide) (by decide)) (zz_lk3 (hd _ _ (by decide) (by decide) (by decide)) (by assumption)) | (simp only [zz_up]; simp_all; done)) 3 rfl dJ2_grow_2_4 ?_
    refine zz_istore_n C dJ2_grow_2_5 (by decide) ?_
    refine zz_iload_n C dJ2_grow_2_6 rfl ?_
    refine zz_if_gt (tgt := 20) C dJ2_grow_2_7 (by decide) (fun c7 => ?_) (fun c7 => ?_)
    · subst hv1
      obtain ⟨NN, hNN⟩ : ∃ NN, (cap + (if 1 < cap / 2 then cap / 2 else 1)) = NN := ⟨_, rfl⟩
      have hb1 : cap < NN ∧ NN ≤ cap + cap / 2 + 10 := by
        rw [← hNN]
        split <;> omega
      obtain ⟨hb1, hb2⟩ := hb1
      have eN := li_new cap hcap
      rw [hNN] at eN
      refine zz_iload_n C dJ2_grow_2_20 rfl ?_
      refine zz_iload_n C dJ2_grow_2_21 rfl ?_
      refine zz_iload_n C dJ2_grow_2_22 rfl ?_
      refine zz_isub C dJ2_grow_2_23 ?_
      refine zz_iload_n C dJ2_grow_2_24 rfl ?_
      refine zz_iconst (v := 1) C dJ2_grow_2_25 (by decide) ?_
      refine zz_ishr C dJ2_grow_2_26 ?_
      refine zz_callS C zy_J10_newLength (ct_J10_newLength (by rw [eN]; exact fun q => absurd ((nI_leI (a := NN) (b := 0) (by omega) (by omega)).mp q) (by omega)) (by rw [eN]; exact nI_le (a := NN) (b := 2147483639) (by omega) (by omega))) rfl q458 rfl rfl rfl rfl rfl dJ2_grow_2_27 ⟨Nat.le_of_ble_eq_true rfl, Nat.le_of_ble_eq_true rfl⟩ (fun v hz hp => ?_)
      obtain ⟨rfl, ez⟩ := hp
      obtain rfl := ez.symm
      refine zz_istore_n C dJ2_grow_2_30 (by decide) ?_
      first | refine zz_aload_n C dJ2_grow_2_31 rfl ?_ | refine zz_aload_nN C dJ2_grow_2_31 rfl ?_
      first | refine zz_aload_n C dJ2_grow_2_32 rfl ?_ | refine zz_aload_nN C dJ2_grow_2_32 rfl ?_
      refine zz_get C rfl (by first | assumption | exact zz_us | exact zz_lk1 (by assumption) (by assumption) | exact zz_lk3 (hd _ _ (by decide) (by decide) (by decide)) (by assumption) | exact zz_uf (by assumption) (by assumption) | exact zz_lk3 (zz_xi (by assumption) (by assumption)) (zz_lk1 (by assumption) (by assumption)) | exact zz_lk3 (hd _ _ (by decide) (by decide) (by decide)) (zz_lk3 (hd _ _ (by decide) (by decide) (by decide)) (by assumption)) | (simp only [zz_up]; simp_all; done)) rfl in_J2 1 rfl q157 (fun _ h => h) (by first | rfl | assumption) dJ2_grow_2_33 ?_
      refine zz_iload_n C dJ2_grow_2_36 rfl ?_
      refine zz_callS C zy_J12_copyOf (ct_J12_copyOf hAr (N := NN) (by omega) (by omega) hel eN) rfl q468 rfl rfl rfl rfl rfl dJ2_grow_2_37 ⟨Nat.le_of_ble_eq_true rfl, Nat.le_of_ble_eq_true rfl⟩ (fun v hz hp => ?_)
      obtain ⟨o, rfl, n0, bo, ez⟩ := hp
      obtain rfl := ez.symm
      refine zz_dup_x1 C dJ2_grow_2_40 rfl rfl ?_
      refine zz_put C rfl (zz_uf hL n0) rfl in_J2 tyJ2 tyJ2_ok nmJ2 1 rfl q157 (fun _ h => h) rfl (tyJ2_ok 1 (by decide)) (by first | rfl | exact zz_narZ (by first | exact zz_b01 _ | assumption | decide)) rfl (Nat.le_of_ble_eq_true rfl) dJ2_grow_2_41 ?_
      refine zz_aret C (Or.inr ⟨_, rfl⟩) (Or.inr ⟨_, rfl⟩) dJ2_grow_2_44 rfl rfl ?_
      exact ⟨o, NN, rfl, n0, bo, hb1, hb2, rfl⟩
    · exact absurd (nI_lt (a := 0) (b := cap) hc0 (by omega)) c7
  · skip
    first | refine zz_aload_n C dJ2_grow_2_0 rfl ?_ | refine zz_aload_nN C dJ2_grow_2_0 rfl ?_
    refine zz_get C rfl (by first | assumption | exact zz_us | exact zz_lk1 (by assumption) (by assumption) | exact zz_lk3 (hd _ _ (by decide) (by decide) (by decide)) (by assumption) | exact zz_uf (by assumption) (by assumption) | exact zz_lk3 (zz_xi (by assumption) (by assumption)) (zz_lk1 (by assumption) (by assumption)) | exact zz_lk3 (hd _ _ (by decide) (by decide) (by decide)) (zz_lk3 (hd _ _ (by decide) (by decide) (by decide)) (by assumption)) | (simp only [zz_up]; simp_all; done)) rfl in_J2 1 rfl q157 (fun _ h => h) (by first | rfl | assumption) dJ2_grow_2_1 ?_
    refine zz_tlen C (zz_tDEF C) dJ2_grow_2_4 ?_
    refine zz_istore_n C dJ2_grow_2_5 (by decide) ?_
    refine zz_iload_n C dJ2_grow_2_6 rfl ?_
    refine zz_if_gt (tgt := 20) C dJ2_grow_2_7 (by decide) (fun c7 => ?_) (fun c7 => ?_)
    · exact absurd c7 (by decide)
    · first | refine zz_aload_n C dJ2_grow_2_10 rfl ?_ | refine zz_aload_nN C dJ2_grow_2_10 rfl ?_
      refine zz_get C rfl (by first | assumption | exact zz_us | exact zz_lk1 (by assumption) (by assumption) | exact zz_lk3 (hd _ _ (by decide) (by decide) (by decide)) (by assumption) | exact zz_uf (by assumption) (by assumption) | exact zz_lk3 (zz_xi (by assumption) (by assumption)) (zz_lk1 (by assumption) (by assumption)) | exact zz_lk3 (hd _ _ (by decide) (by decide) (by decide)) (zz_lk3 (hd _ _ (by decide) (by decide) (by decide)) (by assumption)) | (simp only [zz_up]; simp_all; done)) rfl in_J2 1 rfl q157 (fun _ h => h) (by first | rfl | assumption) dJ2_grow_2_11 ?_
      refine zz_gets C rfl (zz_sDEFAULTCAPACITY_EMPTY_ELEMENTDATA C) q155 (fun _ h => h) dJ2_grow_2_14 ?_
      refine zz_acmp_eq (tgt := 45) C dJ2_grow_2_17 (by decide) (fun c17 => ?_) (fun c17 => ?_)
      · first | refine zz_aload_n C dJ2_grow_2_45 rfl ?_ | refine zz_aload_nN C dJ2_grow_2_45 rfl ?_
        refine zz_bipush (v := 10) C dJ2_grow_2_46 (by decide) ?_
        refine zz_iload_n C dJ2_grow_2_48 rfl ?_
        refine zz_mmax C rfl q495 dJ2_grow_2_49 rfl rfl rfl (by show (_ : Nat) ≤ 1; omega) (by show (_ : Nat) ≤ 160; omega) ?_
        refine zz_newO (N := 10) C rfl q496 (by rw [hv1]; decide) (by omega) rfl (by show (_ : Nat) ≤ 160; omega) dJ2_grow_2_52 (fun o52 n52 b52 => ?_)
        refine zz_dup_x1 C dJ2_grow_2_55 rfl rfl ?_
        refine zz_put C rfl (zz_uf hL n52) rfl in_J2 tyJ2 tyJ2_ok nmJ2 1 rfl q157 (fun _ h => h) rfl (tyJ2_ok 1 (by decide)) (by first | rfl | exact zz_narZ (by first | exact zz_b01 _ | assumption | decide)) rfl (Nat.le_of_ble_eq_true rfl) dJ2_grow_2_56 ?_
        refine zz_aret C (Or.inr ⟨_, rfl⟩) (Or.inr ⟨_, rfl⟩) dJ2_grow_2_59 rfl rfl ?_
        exact ⟨o52, 10, rfl, n52, b52, by decide, by decide, by rw [li_cpy0]; rfl⟩
      · exact absurd rfl c17

theorem ct_J2_grow {l : Launch} {D : va_G} {b0 : Nat} {h : zz_H} {L ar n : Nat} {mc : Int32} {cap : Nat} {f : Nat → Option Nat} (hn : n = cap) (hA : (h ar = some (li_T D cap f) ∧ 0 < cap) ∨ (ar = D.2 1000 3 ∧ cap = 0)) (hcap : cap ≤ 100) (hel : ∀ t : Nat, t < cap → ∀ x : Nat, f t = some x → zz_any D h x) (hL : h L = some (li_F mc ar n))  : zz_Ct l D b0 yJ2_grow cJ2_grow 1 (some (.array (.object "java/lang/Object"))) 4 127 1 160 [.ref L] h (fun v h' => ∃ o N : Nat, v = some (.ref o) ∧ h o = none ∧ b0 ≤ o ∧ cap < N ∧ N ≤ cap + cap / 2 + 10 ∧ h' = zz_up (zz_up h o (li_T D N (va_cpy f (fun _ => none) 0 0 cap))) L (li_F mc o n)) := by
  refine zz_Ct.of zy_J2_grow.1 rfl ?_
  intro p e s m below meth c C
  subst hn
  first | refine zz_aload_n C dJ2_grow_0 rfl ?_ | refine zz_aload_nN C dJ2_grow_0 rfl ?_
  first | refine zz_aload_n C dJ2_grow_1 rfl ?_ | refine zz_aload_nN C dJ2_grow_1 rfl ?_
  refine zz_get C rfl (by first | assumption | exact zz_us | exact zz_lk1 (by assumption) (by assumption) | exact zz_lk3 (hd _ _ (by decide) (by decide) (by decide)) (by assumption) | exact zz_uf (by assumption) (by assumption) | exact zz_lk3 (zz_xi (by assumption) (by assumption)) (zz_lk1 (by assumption) (by assumption)) | exact zz_lk3 (hd _ _ (by decide) (by decide) (by decide)) (zz_lk3 (hd _ _ (by decide) (by decide) (by decide)) (by assumption)) | (simp only [zz_up]; simp_all; done)) rfl in_J2 2 rfl q160 (fun _ h => h) (by first | rfl | assumption) dJ2_grow_2 ?_
  refine zz_iconst (v := 1) C dJ2_grow_5 (by decide) ?_
  refine zz_iadd C dJ2_grow_6 ?_
  refine zz_callV C zy_J2_grow_2 (ct_J2_grow_2 (by rw [nI_1]) hA hcap hel hL) rfl q454 (by first | assumption | exact zz_us | exact zz_lk1 (by assumption) (by assumption) | exact zz_lk3 (hd _ _ (by decide) (by decide) (by decide)) (by assumption) | exact zz_uf (by assumption) (by assumption) | exact zz_lk3 (zz_xi (by assumption) (by assumption)) (zz_lk1 (by assumption) (by assumption)) | exact zz_lk3 (hd _ _ (by decide) (by decide) (by decide)) (zz_lk3 (hd _ _ (by decide) (by decide) (by decide)) (by assumption)) | (simp only [zz_up]; simp_all; done)) rfl rfl rfl rfl rfl rfl dJ2_grow_7 ⟨Nat.le_of_ble_eq_true rfl, Nat.le_of_ble_eq_true rfl⟩ (fun v hz hp => ?_)
  obtain ⟨o, N, rfl, n0, bo, hN1, hN2, ez⟩ := hp
  refine zz_aret C (Or.inr ⟨_, rfl⟩) (Or.inr ⟨_, rfl⟩) dJ2_grow_10 rfl rfl ?_
  exact ⟨o, N, rfl, n0, bo, hN1, hN2, ez⟩

section ZZ
variable {D : va_G} {b0 : Nat} {p : Program} {l : Launch} {e : Env} {R : Room} {s : State} {m : MethodId} {args : Array Value} {below : List Frame} {meth : Method} {c : Code} {Q : State → Prop} {cs ss : Nat} {h : zz_H} {lo : List (Nat × Value)} {y : MethodName} {cc : ByteArray} {nL : Nat} {ret : Option FieldType} {pc : Nat} {st : List Value}
theorem zz_aastA (C : zz_C D b0 y cc nL ret p s m args meth c) {a n v : Nat} {f : Nat → Option Nat} (hh : h a = some (li_T D n f)) (hv : zz_any D h v) {i : Int32} {j : Nat} (hi : i = nI j) (hj : j < n) (hn : n ≤ 2147483647) (hdg : decode cc pc = .ok (.aastore, 1)) (kk : zz_V D b0 nL p l e R s m args below meth c Q cs ss (zz_up h a (li_T D n (va_up f j (some v)))) lo (pc + 1) st) : zz_V D b0 nL p l e R s m args below meth c Q cs ss h lo pc (.ref v :: .int i :: .ref a :: st) := by
  rcases hv with ⟨ci, vs, r, g1, g2, g3⟩ | ⟨n', g, g1⟩
  · exact zz_aastO C hh g1 g2 g3 hi hj hn hdg kk
  · exact zz_aastI C hh g1 hi hj hn hdg kk
end ZZ
theorem li_hh {h : zz_H} {o L : Nat} {T F T' F' : va_E} (hn : o ≠ L) : zz_up (zz_up (zz_up (zz_up h o T) L F) o T') L F' = zz_up (zz_up h L F') o T' := by
  rw [zz_upswap (h := zz_up (zz_up h o T) L F) hn, zz_upup, zz_upswap (h := h) hn, zz_upup]
theorem zz_any.hl {D : va_G} {h : zz_H} {L : Nat} {fs fs' : List Value} {a : Nat} (hL : h L = some (.inr (7, fs))) (ha : zz_any D h a) : zz_any D (zz_up h L (.inr (7, fs'))) a := by
  rcases ha with ⟨ci, vs, r, g1, g2, g3⟩ | ⟨n, g, g1⟩
  · by_cases haL : a = L
    · subst haL
      rw [hL] at g1
      cases g1
      exact Or.inl ⟨7, fs', r, zz_us, g2, g3⟩
    · exact Or.inl ⟨ci, vs, r, (zz_un haL).trans g1, g2, g3⟩
  · exact Or.inr ⟨n, g, (zz_un (fun q => by rw [q, hL] at g1; cases g1)).trans g1⟩
theorem va_up_s {α : Type} {f : Nat → α} {k : Nat} {v : α} : va_up f k v k = v := if_pos rfl
theorem va_up_n {α : Type} {f : Nat → α} {k j : Nat} {v : α} (h : j ≠ k) : va_up f k v j = f j := if_neg h
/-- a list's table, or the empty one; nothing beyond its elements -/
def li_A (D : va_G) (h : zz_H) (ar n cap : Nat) (f : Nat → Option Nat) : Prop := ((h ar = some (li_T D cap f) ∧ 0 < cap) ∨ (ar = D.2 1000 3 ∧ cap = 0)) ∧ n ≤ cap ∧ cap ≤ 100 ∧ (∀ i : Nat, n ≤ i → f i = none) ∧ ∀ t : Nat, t < cap → ∀ x : Nat, f t = some x → zz_any D h x
/-- what an element more does to a list's table -/
def li_R (b0 : Nat) (h : zz_H) (ar n : Nat) (f : Nat → Option Nat) (e0 ar' cap' : Nat) (f' : Nat → Option Nat) : Prop := (ar' = ar ∨ (h ar' = none ∧ b0 ≤ ar')) ∧ n < cap' ∧ cap' ≤ 100 ∧ f' n = some e0 ∧ (∀ i : Nat, i < n → f' i = f i) ∧ ∀ i : Nat, n < i → f' i = none
theorem li_R.up {b0 : Nat} {h : zz_H} {ar n cap : Nat} {f : Nat → Option Nat} {e0 : Nat} (h1 : n < cap) (h2 : cap ≤ 100) (h3 : ∀ i : Nat, n ≤ i → f i = none) : li_R b0 h ar n f e0 ar cap (va_up f n (some e0)) := ⟨Or.inl rfl, h1, h2, va_up_s, fun i hi => va_up_n (by omega), fun i hi => (va_up_n (by omega)).trans (h3 i (by omega))⟩
theorem li_R.nw {b0 : Nat} {h : zz_H} {ar n N : Nat} {f : Nat → Option Nat} {e0 o : Nat} (h1 : n < N) (h2 : N ≤ 100) (ho : h o = none) (hb : b0 ≤ o) : li_R b0 h ar n f e0 o N (va_up (va_cpy f (fun _ => none) 0 0 n) n (some e0)) := ⟨Or.inr ⟨ho, hb⟩, h1, h2, va_up_s, fun i hi => by rw [va_up_n (by omega), pk_cpy_in (by omega) (by omega), Nat.zero_add, Nat.sub_zero], fun i hi => by rw [va_up_n (by omega), pk_cpy_out (by omega)]⟩
theorem ct_J2_add_2 {l : Launch} {D : va_G} {b0 : Nat} {h : zz_H} {L ar n : Nat} {mc : Int32} {cap : Nat} {f : Nat → Option Nat} {e0 : Nat} (hn60 : n ≤ 60) (hA : li_A D h ar n cap f) (he : zz_any D h e0) (hL : h L = some (li_F mc ar n))  : zz_Ct l D b0 yJ2_add_2 cJ2_add_2 4 (none) 5 147 1 160 [.ref L, .ref e0, .ref ar, .int (nI n)] h (fun v h' => ∃ (ar' cap' : Nat) (f' : Nat → Option Nat), v = none ∧ h' = zz_up (zz_up h L (li_F mc ar' (n + 1))) ar' (li_T D cap' f') ∧ li_R b0 h ar n f e0 ar' cap' f') := by
  refine zz_Ct.of zy_J2_add_2.1 rfl ?_
  intro p e s m below meth c C
  obtain ⟨hAA, hnc, hc100, hcl, hel⟩ := hA
  rcases (show (h ar = some (li_T D cap f) ∧ n < cap) ∨ ((h ar = some (li_T D cap f) ∧ 0 < cap) ∧ n = cap) ∨ (ar = D.2 1000 3 ∧ cap = 0) from by
    rcases hAA with q | q
    · rcases Nat.lt_or_eq_of_le hnc with g | g
      · exact Or.inl ⟨q.1, g⟩
      · exact Or.inr (Or.inl ⟨q, g⟩)
    · exact Or.inr (Or.inr q)) with ⟨hAr, hlt⟩ | ⟨⟨hAr, hc0⟩, hlt⟩ | ⟨rfl, rfl⟩
  · have hlt : n < cap := hlt
    refine zz_iload_n C dJ2_add_2_0 rfl ?_
    first | refine zz_aload_n C dJ2_add_2_1 rfl ?_ | refine zz_aload_nN C dJ2_add_2_1 rfl ?_
    refine zz_alen C (by first | assumption | exact zz_us | exact zz_lk1 (by assumption) (by assumption) | exact zz_lk3 (hd _ _ (by decide) (by decide) (by decide)) (by assumption) | exact zz_uf (by assumption) (by assumption) | exact zz_lk3 (zz_xi (by assumption) (by assumption)) (zz_lk1 (by assumption) (by assumption)) | exact zz_lk3 (hd _ _ (by decide) (by decide) (by decide)) (zz_lk3 (hd _ _ (by decide) (by decide) (by decide)) (by assumption)) | (simp only [zz_up]; simp_all; done)) 3 rfl dJ2_add_2_2 ?_
    refine zz_icmp_ne (tgt := 11) C dJ2_add_2_3 (by decide) (fun c3 => ?_) (fun c3 => ?_)
    · first | refine zz_aload_n C dJ2_add_2_11 rfl ?_ | refine zz_aload_nN C dJ2_add_2_11 rfl ?_
      refine zz_iload_n C dJ2_add_2_12 rfl ?_
      first | refine zz_aload_n C dJ2_add_2_13 rfl ?_ | refine zz_aload_nN C dJ2_add_2_13 rfl ?_
      refine zz_aastA C hAr he rfl hlt (by omega) dJ2_add_2_14 ?_
      first | refine zz_aload_n C dJ2_add_2_15 rfl ?_ | refine zz_aload_nN C dJ2_add_2_15 rfl ?_
      refine zz_iload_n C dJ2_add_2_16 rfl ?_
      refine zz_iconst (v := 1) C dJ2_add_2_17 (by decide) ?_
      refine zz_iadd C dJ2_add_2_18 ?_
      refine zz_put C rfl (by first | assumption | exact zz_us | exact zz_lk1 (by assumption) (by assumption) | exact zz_lk3 (hd _ _ (by decide) (by decide) (by decide)) (by assumption) | exact zz_uf (by assumption) (by assumption) | exact zz_lk3 (zz_xi (by assumption) (by assumption)) (zz_lk1 (by assumption) (by assumption)) | exact zz_lk3 (hd _ _ (by decide) (by decide) (by decide)) (zz_lk3 (hd _ _ (by decide) (by decide) (by decide)) (by assumption)) | (simp only [zz_up]; simp_all; done)) rfl in_J2 tyJ2 tyJ2_ok nmJ2 2 rfl q160 (fun _ h => h) rfl (tyJ2_ok 2 (by decide)) (by first | rfl | exact zz_narZ (by first | exact zz_b01 _ | assumption | decide)) rfl (Nat.le_of_ble_eq_true rfl) dJ2_add_2_19 ?_
      refine zz_vret C dJ2_add_2_22 rfl rfl ?_
      exact ⟨ar, cap, _, rfl, by rw [nI_1, zz_upswap (zz_ix hAr hL)]; rfl, li_R.up hlt hc100 hcl⟩
    · exact absurd ((nI_eq (by omega) (by omega)).mp c3) (by omega)
  · subst hlt
    refine zz_iload_n C dJ2_add_2_0 rfl ?_
    first | refine zz_aload_n C dJ2_add_2_1 rfl ?_ | refine zz_aload_nN C dJ2_add_2_1 rfl ?_
    refine zz_alen C (by first | assumption | exact zz_us | exact zz_lk1 (by assumption) (by assumption) | exact zz_lk3 (hd _ _ (by decide) (by decide) (by decide)) (by assumption) | exact zz_uf (by assumption) (by assumption) | exact zz_lk3 (zz_xi (by assumption) (by assumption)) (zz_lk1 (by assumption) (by assumption)) | exact zz_lk3 (hd _ _ (by decide) (by decide) (by decide)) (zz_lk3 (hd _ _ (by decide) (by decide) (by decide)) (by assumption)) | (simp only [zz_up]; simp_all; done)) 3 rfl dJ2_add_2_2 ?_
    refine zz_icmp_ne (tgt := 11) C dJ2_add_2_3 (by decide) (fun c3 => ?_) (fun c3 => ?_)
    · exact absurd rfl c3
    · first | refine zz_aload_n C dJ2_add_2_6 rfl ?_ | refine zz_aload_nN C dJ2_add_2_6 rfl ?_
      refine zz_callV C zy_J2_grow (ct_J2_grow rfl (Or.inl ⟨hAr, hc0⟩) hc100 hel hL) rfl q450 (by first | assumption | exact zz_us | exact zz_lk1 (by assumption) (by assumption) | exact zz_lk3 (hd _ _ (by decide) (by decide) (by decide)) (by assumption) | exact zz_uf (by assumption) (by assumption) | exact zz_lk3 (zz_xi (by assumption) (by assumption)) (zz_lk1 (by assumption) (by assumption)) | exact zz_lk3 (hd _ _ (by decide) (by decide) (by decide)) (zz_lk3 (hd _ _ (by decide) (by decide) (by decide)) (by assumption)) | (simp only [zz_up]; simp_all; done)) rfl rfl rfl rfl rfl rfl dJ2_add_2_7 ⟨Nat.le_of_ble_eq_true rfl, Nat.le_of_ble_eq_true rfl⟩ (fun v hz hp => ?_)
      obtain ⟨o, N, rfl, n0, bo, hN1, hN2, ez⟩ := hp
      obtain rfl := ez.symm
      refine zz_astore_n C dJ2_add_2_10 (by decide) ?_
      first | refine zz_aload_n C dJ2_add_2_11 rfl ?_ | refine zz_aload_nN C dJ2_add_2_11 rfl ?_
      refine zz_iload_n C dJ2_add_2_12 rfl ?_
      first | refine zz_aload_n C dJ2_add_2_13 rfl ?_ | refine zz_aload_nN C dJ2_add_2_13 rfl ?_
      refine zz_aastA C (zz_lk3 (fun q => by rw [q, hL] at n0; cases n0) zz_us) ((he.up n0).hl (zz_uf hL n0)) rfl (by omega) (by omega) dJ2_add_2_14 ?_
      first | refine zz_aload_n C dJ2_add_2_15 rfl ?_ | refine zz_aload_nN C dJ2_add_2_15 rfl ?_
      refine zz_iload_n C dJ2_add_2_16 rfl ?_
      refine zz_iconst (v := 1) C dJ2_add_2_17 (by decide) ?_
      refine zz_iadd C dJ2_add_2_18 ?_
      refine zz_put C rfl (zz_lk1 zz_us (zz_lk3 (fun q => by rw [q, hL] at n0; cases n0) zz_us)) rfl in_J2 tyJ2 tyJ2_ok nmJ2 2 rfl q160 (fun _ h => h) rfl (tyJ2_ok 2 (by decide)) (by first | rfl | exact zz_narZ (by first | exact zz_b01 _ | assumption | decide)) rfl (Nat.le_of_ble_eq_true rfl) dJ2_add_2_19 ?_
      refine zz_vret C dJ2_add_2_22 rfl rfl ?_
      exact ⟨o, N, _, rfl, by rw [nI_1]; exact li_hh (fun q => by rw [q, hL] at n0; cases n0), li_R.nw hN1 (by omega) n0 bo⟩
  · obtain rfl : n = 0 := by omega
    refine zz_iload_n C dJ2_add_2_0 rfl ?_
    first | refine zz_aload_n C dJ2_add_2_1 rfl ?_ | refine zz_aload_nN C dJ2_add_2_1 rfl ?_
    refine zz_tlen C (zz_tDEF C) dJ2_add_2_2 ?_
    refine zz_icmp_ne (tgt := 11) C dJ2_add_2_3 (by decide) (fun c3 => ?_) (fun c3 => ?_)
    · exact absurd rfl c3
    · first | refine zz_aload_n C dJ2_add_2_6 rfl ?_ | refine zz_aload_nN C dJ2_add_2_6 rfl ?_
      refine zz_callV C zy_J2_grow (ct_J2_grow rfl (Or.inr ⟨rfl, rfl⟩) hc100 hel hL) rfl q450 (by first | assumption | exact zz_us | exact zz_lk1 (by assumption) (by assumption) | exact zz_lk3 (hd _ _ (by decide) (by decide) (by decide)) (by assumption) | exact zz_uf (by assumption) (by assumption) | exact zz_lk3 (zz_xi (by assumption) (by assumption)) (zz_lk1 (by assumption) (by assumption)) | exact zz_lk3 (hd _ _ (by decide) (by decide) (by decide)) (zz_lk3 (hd _ _ (by decide) (by decide) (by decide)) (by assumption)) | (simp only [zz_up]; simp_all; done)) rfl rfl rfl rfl rfl rfl dJ2_add_2_7 ⟨Nat.le_of_ble_eq_true rfl, Nat.le_of_ble_eq_true rfl⟩ (fun v hz hp => ?_)
      obtain ⟨o, N, rfl, n0, bo, hN1, hN2, ez⟩ := hp
      obtain rfl := ez.symm
      refine zz_astore_n C dJ2_add_2_10 (by decide) ?_
      first | refine zz_aload_n C dJ2_add_2_11 rfl ?_ | refine zz_aload_nN C dJ2_add_2_11 rfl ?_
      refine zz_iload_n C dJ2_add_2_12 rfl ?_
      first | refine zz_aload_n C dJ2_add_2_13 rfl ?_ | refine zz_aload_nN C dJ2_add_2_13 rfl ?_
      refine zz_aastA C (zz_lk3 (fun q => by rw [q, hL] at n0; cases n0) zz_us) ((he.up n0).hl (zz_uf hL n0)) rfl (by omega) (by omega) dJ2_add_2_14 ?_
      first | refine zz_aload_n C dJ2_add_2_15 rfl ?_ | refine zz_aload_nN C dJ2_add_2_15 rfl ?_
      refine zz_iload_n C dJ2_add_2_16 rfl ?_
      refine zz_iconst (v := 1) C dJ2_add_2_17 (by decide) ?_
      refine zz_iadd C dJ2_add_2_18 ?_
      refine zz_put C rfl (zz_lk1 zz_us (zz_lk3 (fun q => by rw [q, hL] at n0; cases n0) zz_us)) rfl in_J2 tyJ2 tyJ2_ok nmJ2 2 rfl q160 (fun _ h => h) rfl (tyJ2_ok 2 (by decide)) (by first | rfl | exact zz_narZ (by first | exact zz_b01 _ | assumption | decide)) rfl (Nat.le_of_ble_eq_true rfl) dJ2_add_2_19 ?_
      refine zz_vret C dJ2_add_2_22 rfl rfl ?_
      exact ⟨o, N, _, rfl, by rw [nI_1]; exact li_hh (fun q => by rw [q, hL] at n0; cases n0), li_R.nw hN1 (by omega) n0 bo⟩

