/-! the library: an element more, an element less -/
theorem li_A.hl {D : va_G} {h : zz_H} {L ar n cap : Nat} {fs fs' : List Value} {f : Nat → Option Nat} (hL : h L = some (.inr (7, fs))) (hA : li_A D h ar n cap f) : li_A D (zz_up h L (.inr (7, fs'))) ar n cap f := by
  obtain ⟨h1, h2, h3, h4, h5⟩ := hA
  refine ⟨?_, h2, h3, h4, fun t ht x hx => (h5 t ht x hx).hl hL⟩
  rcases h1 with ⟨g1, g2⟩ | g
  · exact Or.inl ⟨(zz_un (zz_ix g1 hL)).trans g1, g2⟩
  · exact Or.inr g
theorem li_R.hl {b0 : Nat} {h : zz_H} {L ar n : Nat} {f : Nat → Option Nat} {e0 ar' cap' : Nat} {f' : Nat → Option Nat} {e : va_E} (hR : li_R b0 (zz_up h L e) ar n f e0 ar' cap' f') : li_R b0 h ar n f e0 ar' cap' f' := by
  obtain ⟨h1, h2⟩ := hR
  refine ⟨?_, h2⟩
  rcases h1 with h1 | ⟨g1, g2⟩
  · exact Or.inl h1
  · refine Or.inr ⟨?_, g2⟩
    by_cases hx : ar' = L
    · rw [hx, zz_us] at g1; cases g1
    · rw [zz_un hx] at g1; exact g1
/-- what an element less does to a table of m + 1 -/
def li_rm (f : Nat → Option Nat) (m j : Nat) : Nat → Option Nat := va_up (if j < m then va_cpy f f (j + 1) j (m - j) else f) m none
theorem li_rm_lt {f : Nat → Option Nat} {m j t : Nat} (hj : j ≤ m) (ht : t < j) : li_rm f m j t = f t := by
  unfold li_rm
  rw [va_up_n (by omega)]
  split
  · exact pk_cpy_out (by omega)
  · rfl
theorem li_rm_ge {f : Nat → Option Nat} {m j t : Nat} (h1 : j ≤ t) (h2 : t < m) : li_rm f m j t = f (t + 1) := by
  unfold li_rm
  rw [va_up_n (by omega), if_pos (by omega), pk_cpy_in h1 (by omega)]
  congr 1
  omega
theorem li_rm_no {f : Nat → Option Nat} {m j t : Nat} (hj : j ≤ m) (hcl : ∀ i : Nat, m + 1 ≤ i → f i = none) (ht : m ≤ t) : li_rm f m j t = none := by
  unfold li_rm
  by_cases htm : t = m
  · rw [htm, va_up_s]
  · rw [va_up_n htm]
    split
    · rw [pk_cpy_out (by omega)]; exact hcl t (by omega)
    · exact hcl t (by omega)
theorem li_h2 {h : zz_H} {a L : Nat} {T F T' F' : va_E} (hn : a ≠ L) : zz_up (zz_up (zz_up (zz_up h L F) a T) L F') a T' = zz_up (zz_up h L F') a T' := by
  rw [zz_upswap (h := zz_up h L F) hn, zz_upup, zz_upup]
theorem ct_J2_add {l : Launch} {D : va_G} {b0 : Nat} {h : zz_H} {L ar n : Nat} {mc : Int32} {cap : Nat} {f : Nat → Option Nat} {e0 : Nat} (hn60 : n ≤ 60) (hA : li_A D h ar n cap f) (he : zz_any D h e0) (hL : h L = some (li_F mc ar n))  : zz_Ct l D b0 yJ2_add cJ2_add 2 (some .boolean) 6 170 1 160 [.ref L, .ref e0] h (fun v h' => ∃ (ar' cap' : Nat) (f' : Nat → Option Nat), v = some (.int 1) ∧ h' = zz_up (zz_up h L (li_F (mc + 1) ar' (n + 1))) ar' (li_T D cap' f') ∧ li_R b0 h ar n f e0 ar' cap' f') := by
  refine zz_Ct.of zy_J2_add rfl ?_
  intro p e s m below meth c C
  first | refine zz_aload_n C dJ2_add_0 rfl ?_ | refine zz_aload_nN C dJ2_add_0 rfl ?_
  refine zz_dup C dJ2_add_1 rfl ?_
  refine zz_get C rfl (by first | assumption | exact zz_us | exact zz_lk1 (by assumption) (by assumption) | exact zz_lk3 (hd _ _ (by decide) (by decide) (by decide)) (by assumption) | exact zz_uf (by assumption) (by assumption) | exact zz_lk3 (zz_xi (by assumption) (by assumption)) (zz_lk1 (by assumption) (by assumption)) | exact zz_lk3 (hd _ _ (by decide) (by decide) (by decide)) (zz_lk3 (hd _ _ (by decide) (by decide) (by decide)) (by assumption)) | (simp only [zz_up]; simp_all; done)) rfl in_J2 0 rfl q164 (fun x h => u_same (C.2.2.2.2.1 _ q163) x h) (by first | rfl | assumption) dJ2_add_2 ?_
  refine zz_iconst (v := 1) C dJ2_add_5 (by decide) ?_
  refine zz_iadd C dJ2_add_6 ?_
  refine zz_put C rfl (by first | assumption | exact zz_us | exact zz_lk1 (by assumption) (by assumption) | exact zz_lk3 (hd _ _ (by decide) (by decide) (by decide)) (by assumption) | exact zz_uf (by assumption) (by assumption) | exact zz_lk3 (zz_xi (by assumption) (by assumption)) (zz_lk1 (by assumption) (by assumption)) | exact zz_lk3 (hd _ _ (by decide) (by decide) (by decide)) (zz_lk3 (hd _ _ (by decide) (by decide) (by decide)) (by assumption)) | (simp only [zz_up]; simp_all; done)) rfl in_J2 tyJ2 tyJ2_ok nmJ2 0 rfl q164 (fun x h => u_same (C.2.2.2.2.1 _ q163) x h) rfl (tyJ2_ok 0 (by decide)) (by first | rfl | exact zz_narZ (by first | exact zz_b01 _ | assumption | decide)) rfl (Nat.le_of_ble_eq_true rfl) dJ2_add_7 ?_
  first | refine zz_aload_n C dJ2_add_10 rfl ?_ | refine zz_aload_nN C dJ2_add_10 rfl ?_
  first | refine zz_aload_n C dJ2_add_11 rfl ?_ | refine zz_aload_nN C dJ2_add_11 rfl ?_
  first | refine zz_aload_n C dJ2_add_12 rfl ?_ | refine zz_aload_nN C dJ2_add_12 rfl ?_
  refine zz_get C rfl (by first | assumption | exact zz_us | exact zz_lk1 (by assumption) (by assumption) | exact zz_lk3 (hd _ _ (by decide) (by decide) (by decide)) (by assumption) | exact zz_uf (by assumption) (by assumption) | exact zz_lk3 (zz_xi (by assumption) (by assumption)) (zz_lk1 (by assumption) (by assumption)) | exact zz_lk3 (hd _ _ (by decide) (by decide) (by decide)) (zz_lk3 (hd _ _ (by decide) (by decide) (by decide)) (by assumption)) | (simp only [zz_up]; simp_all; done)) rfl in_J2 1 rfl q157 (fun _ h => h) (by first | rfl | assumption) dJ2_add_13 ?_
  first | refine zz_aload_n C dJ2_add_16 rfl ?_ | refine zz_aload_nN C dJ2_add_16 rfl ?_
  refine zz_get C rfl (by first | assumption | exact zz_us | exact zz_lk1 (by assumption) (by assumption) | exact zz_lk3 (hd _ _ (by decide) (by decide) (by decide)) (by assumption) | exact zz_uf (by assumption) (by assumption) | exact zz_lk3 (zz_xi (by assumption) (by assumption)) (zz_lk1 (by assumption) (by assumption)) | exact zz_lk3 (hd _ _ (by decide) (by decide) (by decide)) (zz_lk3 (hd _ _ (by decide) (by decide) (by decide)) (by assumption)) | (simp only [zz_up]; simp_all; done)) rfl in_J2 2 rfl q160 (fun _ h => h) (by first | rfl | assumption) dJ2_add_17 ?_
  refine zz_callV C zy_J2_add_2 (ct_J2_add_2 hn60 (hA.hl hL) (he.hl hL) zz_us) rfl q446 (by first | assumption | exact zz_us | exact zz_lk1 (by assumption) (by assumption) | exact zz_lk3 (hd _ _ (by decide) (by decide) (by decide)) (by assumption) | exact zz_uf (by assumption) (by assumption) | exact zz_lk3 (zz_xi (by assumption) (by assumption)) (zz_lk1 (by assumption) (by assumption)) | exact zz_lk3 (hd _ _ (by decide) (by decide) (by decide)) (zz_lk3 (hd _ _ (by decide) (by decide) (by decide)) (by assumption)) | (simp only [zz_up]; simp_all; done)) rfl rfl rfl rfl rfl rfl dJ2_add_20 ⟨Nat.le_of_ble_eq_true rfl, Nat.le_of_ble_eq_true rfl⟩ (fun v hz hp => ?_)
  obtain ⟨ar', cap', f', rfl, ez, hR⟩ := hp
  obtain rfl := ez.symm
  refine zz_iconst (v := 1) C dJ2_add_23 (by decide) ?_
  refine zz_zret0 C (zz_narZ (by first | exact zz_b01 _ | decide | assumption)) dJ2_add_24 rfl rfl ?_
  exact ⟨ar', cap', f', rfl, by rw [zz_upup], hR.hl⟩

theorem ct_J2_fastRemove {l : Launch} {D : va_G} {b0 : Nat} {h : zz_H} {L ar mm : Nat} {mc : Int32} {cap : Nat} {f : Nat → Option Nat} {v0 : Int32} (j : Nat) (hv0 : v0 = nI j) (hj : j ≤ mm) (hA : h ar = some (li_T D cap f)) (hm : mm < cap) (hcap : cap ≤ 100) (hel : ∀ t : Nat, t < cap → ∀ x : Nat, f t = some x → zz_any D h x) (hL : h L = some (li_F mc ar (mm + 1)))  : zz_Ct l D b0 yJ2_fastRemove cJ2_fastRemove 4 (none) 1 60 0 0 [.ref L, .ref ar, .int v0] h (fun v h' => v = none ∧ h' = zz_up (zz_up h L (li_F (mc + 1) ar mm)) ar (li_T D cap (li_rm f mm j))) := by
  refine zz_Ct.of zy_J2_fastRemove.1 rfl ?_
  intro p e s m below meth c C
  first | refine zz_aload_n C dJ2_fastRemove_0 rfl ?_ | refine zz_aload_nN C dJ2_fastRemove_0 rfl ?_
  refine zz_dup C dJ2_fastRemove_1 rfl ?_
  refine zz_get C rfl (by first | assumption | exact zz_us | exact zz_lk1 (by assumption) (by assumption) | exact zz_lk3 (hd _ _ (by decide) (by decide) (by decide)) (by assumption) | exact zz_uf (by assumption) (by assumption) | exact zz_lk3 (zz_xi (by assumption) (by assumption)) (zz_lk1 (by assumption) (by assumption)) | exact zz_lk3 (hd _ _ (by decide) (by decide) (by decide)) (zz_lk3 (hd _ _ (by decide) (by decide) (by decide)) (by assumption)) | (simp only [zz_up]; simp_all; done)) rfl in_J2 0 rfl q164 (fun x h => u_same (C.2.2.2.2.1 _ q163) x h) (by first | rfl | assumption) dJ2_fastRemove_2 ?_
  refine zz_iconst (v := 1) C dJ2_fastRemove_5 (by decide) ?_
  refine zz_iadd C dJ2_fastRemove_6 ?_
  refine zz_put C rfl (by first | assumption | exact zz_us | exact zz_lk1 (by assumption) (by assumption) | exact zz_lk3 (hd _ _ (by decide) (by decide) (by decide)) (by assumption) | exact zz_uf (by assumption) (by assumption) | exact zz_lk3 (zz_xi (by assumption) (by assumption)) (zz_lk1 (by assumption) (by assumption)) | exact zz_lk3 (hd _ _ (by decide) (by decide) (by decide)) (zz_lk3 (hd _ _ (by decide) (by decide) (by decide)) (by assumption)) | (simp only [zz_up]; simp_all; done)) rfl in_J2 tyJ2 tyJ2_ok nmJ2 0 rfl q164 (fun x h => u_same (C.2.2.2.2.1 _ q163) x h) rfl (tyJ2_ok 0 (by decide)) (by first | rfl | exact zz_narZ (by first | exact zz_b01 _ | assumption | decide)) rfl (Nat.le_of_ble_eq_true rfl) dJ2_fastRemove_7 ?_
  first | refine zz_aload_n C dJ2_fastRemove_10 rfl ?_ | refine zz_aload_nN C dJ2_fastRemove_10 rfl ?_
  refine zz_get C rfl (by first | assumption | exact zz_us | exact zz_lk1 (by assumption) (by assumption) | exact zz_lk3 (hd _ _ (by decide) (by decide) (by decide)) (by assumption) | exact zz_uf (by assumption) (by assumption) | exact zz_lk3 (zz_xi (by assumption) (by assumption)) (zz_lk1 (by assumption) (by assumption)) | exact zz_lk3 (hd _ _ (by decide) (by decide) (by decide)) (zz_lk3 (hd _ _ (by decide) (by decide) (by decide)) (by assumption)) | (simp only [zz_up]; simp_all; done)) rfl in_J2 2 rfl q160 (fun _ h => h) (by first | rfl | assumption) dJ2_fastRemove_11 ?_
  refine zz_iconst (v := 1) C dJ2_fastRemove_14 (by decide) ?_
  refine zz_isub C dJ2_fastRemove_15 ?_
  rw [zz_sub1]
  refine zz_dup C dJ2_fastRemove_16 rfl ?_
  refine zz_istore_n C dJ2_fastRemove_17 (by decide) ?_
  refine zz_iload_n C dJ2_fastRemove_18 rfl ?_
  refine zz_icmp_le (tgt := 34) C dJ2_fastRemove_19 (by decide) (fun c19 => ?_) (fun c19 => ?_)
  · have hjm : ¬ j < mm := fun q => absurd c19 (by rw [hv0]; exact fun g => absurd ((nI_leI (by omega) (by omega)).mp g) (by omega))
    first | refine zz_aload_n C dJ2_fastRemove_34 rfl ?_ | refine zz_aload_nN C dJ2_fastRemove_34 rfl ?_
    first | refine zz_aload_n C dJ2_fastRemove_35 rfl ?_ | refine zz_aload_nN C dJ2_fastRemove_35 rfl ?_
    refine zz_iload_n C dJ2_fastRemove_36 rfl ?_
    refine zz_dup_x1 C dJ2_fastRemove_37 rfl rfl ?_
    refine zz_put C rfl (by first | exact zz_us | exact zz_lk1 zz_us (zz_lk2 hA hL)) rfl in_J2 tyJ2 tyJ2_ok nmJ2 2 rfl q160 (fun _ h => h) rfl (tyJ2_ok 2 (by decide)) (by first | rfl | exact zz_narZ (by first | exact zz_b01 _ | assumption | decide)) rfl (Nat.le_of_ble_eq_true rfl) dJ2_fastRemove_38 ?_
    refine zz_null C dJ2_fastRemove_41 ?_
    refine zz_aastN C (by first | exact zz_lk2 (zz_lk2 hA hL) zz_us | exact zz_lk2 zz_us (zz_lk1 zz_us (zz_lk2 hA hL))) rfl (by omega) (by omega) dJ2_fastRemove_42 ?_
    refine zz_vret C dJ2_fastRemove_43 rfl rfl ?_
    first
    | (refine ⟨rfl, ?_⟩; unfold li_rm; rw [if_neg hjm, zz_upup]; rfl)
    | (refine ⟨rfl, ?_⟩; unfold li_rm; rw [if_pos hjm]; exact li_h2 (zz_ix hA hL))
  · have hjm : j < mm := Nat.not_le.mp (fun q => c19 (by rw [hv0]; exact nI_le q (by omega)))
    first | refine zz_aload_n C dJ2_fastRemove_22 rfl ?_ | refine zz_aload_nN C dJ2_fastRemove_22 rfl ?_
    refine zz_iload_n C dJ2_fastRemove_23 rfl ?_
    refine zz_iconst (v := 1) C dJ2_fastRemove_24 (by decide) ?_
    refine zz_iadd C dJ2_fastRemove_25 ?_
    first | refine zz_aload_n C dJ2_fastRemove_26 rfl ?_ | refine zz_aload_nN C dJ2_fastRemove_26 rfl ?_
    refine zz_iload_n C dJ2_fastRemove_27 rfl ?_
    refine zz_iload_n C dJ2_fastRemove_28 rfl ?_
    refine zz_iload_n C dJ2_fastRemove_29 rfl ?_
    refine zz_isub C dJ2_fastRemove_30 ?_
    refine zz_copyO (i := j + 1) (j := j) (k := mm - j) C rfl q323 q101 (zz_lk2 hA hL) (zz_lk2 hA hL) (by rw [hv0]; exact nI_1 j) hv0 (by rw [hv0]; exact pk_sub (by omega)) (by omega) (by omega) (by omega) (by omega) (fun t ht x hx => (hel _ (by omega) x hx).hl hL) rfl rfl rfl dJ2_fastRemove_31 ?_
    first | refine zz_aload_n C dJ2_fastRemove_34 rfl ?_ | refine zz_aload_nN C dJ2_fastRemove_34 rfl ?_
    first | refine zz_aload_n C dJ2_fastRemove_35 rfl ?_ | refine zz_aload_nN C dJ2_fastRemove_35 rfl ?_
    refine zz_iload_n C dJ2_fastRemove_36 rfl ?_
    refine zz_dup_x1 C dJ2_fastRemove_37 rfl rfl ?_
    refine zz_put C rfl (by first | exact zz_us | exact zz_lk1 zz_us (zz_lk2 hA hL)) rfl in_J2 tyJ2 tyJ2_ok nmJ2 2 rfl q160 (fun _ h => h) rfl (tyJ2_ok 2 (by decide)) (by first | rfl | exact zz_narZ (by first | exact zz_b01 _ | assumption | decide)) rfl (Nat.le_of_ble_eq_true rfl) dJ2_fastRemove_38 ?_
    refine zz_null C dJ2_fastRemove_41 ?_
    refine zz_aastN C (by first | exact zz_lk2 (zz_lk2 hA hL) zz_us | exact zz_lk2 zz_us (zz_lk1 zz_us (zz_lk2 hA hL))) rfl (by omega) (by omega) dJ2_fastRemove_42 ?_
    refine zz_vret C dJ2_fastRemove_43 rfl rfl ?_
    first
    | (refine ⟨rfl, ?_⟩; unfold li_rm; rw [if_neg hjm, zz_upup]; rfl)
    | (refine ⟨rfl, ?_⟩; unfold li_rm; rw [if_pos hjm]; exact li_h2 (zz_ix hA hL))


theorem ct_J2_remove {l : Launch} {D : va_G} {b0 : Nat} {h : zz_H} {L ar mm : Nat} {mc : Int32} {cap : Nat} {f : Nat → Option Nat} {v0 : Int32} (j : Nat) (hv0 : v0 = nI j) (hj : j ≤ mm) (hA : h ar = some (li_T D cap f)) (hm : mm < cap) (hcap : cap ≤ 100) (hel : ∀ t : Nat, t < cap → ∀ x : Nat, f t = some x → zz_any D h x) {e0 : Nat} (he : f j = some e0) (hL : h L = some (li_F mc ar (mm + 1)))  : zz_Ct l D b0 yJ2_remove cJ2_remove 4 (some (.object "java/lang/Object")) 2 83 0 0 [.ref L, .int v0] h (fun v h' => v = some (.ref e0) ∧ h' = zz_up (zz_up h L (li_F (mc + 1) ar mm)) ar (li_T D cap (li_rm f mm j))) := by
  refine zz_Ct.of zy_J2_remove rfl ?_
  intro p e s m below meth c C
  refine zz_iload_n C dJ2_remove_0 rfl ?_
  first | refine zz_aload_n C dJ2_remove_1 rfl ?_ | refine zz_aload_nN C dJ2_remove_1 rfl ?_
  refine zz_get C rfl (by first | assumption | exact zz_us | exact zz_lk1 (by assumption) (by assumption) | exact zz_lk3 (hd _ _ (by decide) (by decide) (by decide)) (by assumption) | exact zz_uf (by assumption) (by assumption) | exact zz_lk3 (zz_xi (by assumption) (by assumption)) (zz_lk1 (by assumption) (by assumption)) | exact zz_lk3 (hd _ _ (by decide) (by decide) (by decide)) (zz_lk3 (hd _ _ (by decide) (by decide) (by decide)) (by assumption)) | (simp only [zz_up]; simp_all; done)) rfl in_J2 2 rfl q160 (fun _ h => h) (by first | rfl | assumption) dJ2_remove_2 ?_
  refine zz_callS C zy_J7_checkIndex (ct_J7_checkIndex (by rw [hv0]; exact nI_pos (by omega)) (by rw [hv0]; exact nI_lt (by omega) (by omega))) rfl q313 rfl rfl rfl rfl rfl dJ2_remove_5 ⟨Nat.le_of_ble_eq_true rfl, Nat.le_of_ble_eq_true rfl⟩ (fun v hz hp => ?_)
  obtain ⟨rfl, ez⟩ := hp
  obtain rfl := ez.symm
  refine zz_pop C dJ2_remove_8 rfl ?_
  first | refine zz_aload_n C dJ2_remove_9 rfl ?_ | refine zz_aload_nN C dJ2_remove_9 rfl ?_
  refine zz_get C rfl (by first | assumption | exact zz_us | exact zz_lk1 (by assumption) (by assumption) | exact zz_lk3 (hd _ _ (by decide) (by decide) (by decide)) (by assumption) | exact zz_uf (by assumption) (by assumption) | exact zz_lk3 (zz_xi (by assumption) (by assumption)) (zz_lk1 (by assumption) (by assumption)) | exact zz_lk3 (hd _ _ (by decide) (by decide) (by decide)) (zz_lk3 (hd _ _ (by decide) (by decide) (by decide)) (by assumption)) | (simp only [zz_up]; simp_all; done)) rfl in_J2 1 rfl q157 (fun _ h => h) (by first | rfl | assumption) dJ2_remove_10 ?_
  refine zz_astore_n C dJ2_remove_13 (by decide) ?_
  first | refine zz_aload_n C dJ2_remove_14 rfl ?_ | refine zz_aload_nN C dJ2_remove_14 rfl ?_
  refine zz_iload_n C dJ2_remove_15 rfl ?_
  refine zz_aaldO C (by first | assumption | exact zz_us | exact zz_lk1 (by assumption) (by assumption) | exact zz_lk3 (hd _ _ (by decide) (by decide) (by decide)) (by assumption) | exact zz_uf (by assumption) (by assumption) | exact zz_lk3 (zz_xi (by assumption) (by assumption)) (zz_lk1 (by assumption) (by assumption)) | exact zz_lk3 (hd _ _ (by decide) (by decide) (by decide)) (zz_lk3 (hd _ _ (by decide) (by decide) (by decide)) (by assumption)) | (simp only [zz_up]; simp_all; done)) hv0 (by omega) (by omega) (show va_rf (f j) = .ref e0 from by rw [he]; rfl) dJ2_remove_16 ?_
  refine zz_astore_n C dJ2_remove_17 (by decide) ?_
  first | refine zz_aload_n C dJ2_remove_18 rfl ?_ | refine zz_aload_nN C dJ2_remove_18 rfl ?_
  first | refine zz_aload_n C dJ2_remove_19 rfl ?_ | refine zz_aload_nN C dJ2_remove_19 rfl ?_
  refine zz_iload_n C dJ2_remove_20 rfl ?_
  refine zz_callV C zy_J2_fastRemove (ct_J2_fastRemove j hv0 hj hA hm hcap hel hL) rfl q319 (by first | assumption | exact zz_us | exact zz_lk1 (by assumption) (by assumption) | exact zz_lk3 (hd _ _ (by decide) (by decide) (by decide)) (by assumption) | exact zz_uf (by assumption) (by assumption) | exact zz_lk3 (zz_xi (by assumption) (by assumption)) (zz_lk1 (by assumption) (by assumption)) | exact zz_lk3 (hd _ _ (by decide) (by decide) (by decide)) (zz_lk3 (hd _ _ (by decide) (by decide) (by decide)) (by assumption)) | (simp only [zz_up]; simp_all; done)) rfl rfl rfl rfl rfl rfl dJ2_remove_21 ⟨Nat.le_of_ble_eq_true rfl, Nat.le_of_ble_eq_true rfl⟩ (fun v hz hp => ?_)
  obtain ⟨rfl, ez⟩ := hp
  obtain rfl := ez.symm
  first | refine zz_aload_n C dJ2_remove_24 rfl ?_ | refine zz_aload_nN C dJ2_remove_24 rfl ?_
  refine zz_aret C (Or.inl ⟨_, rfl⟩) (Or.inr ⟨_, rfl⟩) dJ2_remove_25 rfl rfl ?_
  exact ⟨rfl, rfl⟩

