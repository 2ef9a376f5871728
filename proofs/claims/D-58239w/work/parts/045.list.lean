/-! the library: lists and their iterators -/
theorem zz_any.up {D : va_G} {h : zz_H} {a x : Nat} {e : va_E} (h0 : h x = none) (ha : zz_any D h a) : zz_any D (zz_up h x e) a := by
  rcases ha with ⟨ci, vs, r, g1, g2, g3⟩ | ⟨n, g, g1⟩
  · exact Or.inl ⟨ci, vs, r, zz_uf g1 h0, g2, g3⟩
  · exact Or.inr ⟨n, g, zz_uf g1 h0⟩
/-- the fields of a list -/
abbrev li_F (mc : Int32) (ar n : Nat) : va_E := .inr (7, [.int mc, .ref ar, .int (nI n)])
/-- its table -/
abbrev li_T (D : va_G) (cap : Nat) (f : Nat → Option Nat) : va_E := .inl (D.1 103, cap, .inr (.inr (.inr (.inr f))))
/-- an iterator -/
abbrev it_F (k : Nat) (lr mc : Int32) (L : Nat) : va_E := .inr (8, [.int (nI k), .int lr, .int mc, .ref L])
theorem ct_J0_init {l : Launch} {D : va_G} {b0 : Nat} {h : zz_H} {L : Nat} : zz_Ct l D b0 yJ0_init cJ0_init 1 (none) 1 20 0 0 [.ref L] h (fun v h' => v = none ∧ h' = h) := by
  refine zz_Ct.of zy_J0_init.1 rfl ?_
  intro p e s m below meth c C
  first | refine zz_aload_n C dJ0_init_0 rfl ?_ | refine zz_aload_nN C dJ0_init_0 rfl ?_
  refine zz_objInit C rfl q154 q123 q124 dJ0_init_1 rfl rfl rfl ?_
  refine zz_vret C dJ0_init_4 rfl rfl ?_
  exact ⟨rfl, rfl⟩

theorem ct_J13_init {l : Launch} {D : va_G} {b0 : Nat} {h : zz_H} {L : Nat} : zz_Ct l D b0 yJ13_init cJ13_init 1 (none) 1 20 0 0 [.ref L] h (fun v h' => v = none ∧ h' = h) := by
  refine zz_Ct.of zy_J13_init.1 rfl ?_
  intro p e s m below meth c C
  first | refine zz_aload_n C dJ13_init_0 rfl ?_ | refine zz_aload_nN C dJ13_init_0 rfl ?_
  refine zz_objInit C rfl q551 q123 q124 dJ13_init_1 rfl rfl rfl ?_
  refine zz_vret C dJ13_init_4 rfl rfl ?_
  exact ⟨rfl, rfl⟩

theorem ct_J1_init {l : Launch} {D : va_G} {b0 : Nat} {h : zz_H} {L : Nat} (hL : h L = some (.inr (7, [.int 0, .null, .int 0])))  : zz_Ct l D b0 yJ1_init cJ1_init 1 (none) 2 40 0 0 [.ref L] h (fun v h' => v = none ∧ h' = h) := by
  refine zz_Ct.of zy_J1_init.1 rfl ?_
  intro p e s m below meth c C
  first | refine zz_aload_n C dJ1_init_0 rfl ?_ | refine zz_aload_nN C dJ1_init_0 rfl ?_
  refine zz_callI C zy_J0_init (ct_J0_init) rfl q151 rfl rfl rfl rfl rfl dJ1_init_1 ⟨Nat.le_of_ble_eq_true rfl, Nat.le_of_ble_eq_true rfl⟩ (fun v hz hp => ?_)
  obtain ⟨rfl, ez⟩ := hp
  obtain rfl := ez.symm
  first | refine zz_aload_n C dJ1_init_4 rfl ?_ | refine zz_aload_nN C dJ1_init_4 rfl ?_
  refine zz_iconst (v := 0) C dJ1_init_5 (by decide) ?_
  refine zz_put C rfl (by first | assumption | exact zz_us | exact zz_lk1 (by assumption) (by assumption) | exact zz_lk3 (hd _ _ (by decide) (by decide) (by decide)) (by assumption) | exact zz_uf (by assumption) (by assumption) | exact zz_lk3 (zz_xi (by assumption) (by assumption)) (zz_lk1 (by assumption) (by assumption)) | exact zz_lk3 (hd _ _ (by decide) (by decide) (by decide)) (zz_lk3 (hd _ _ (by decide) (by decide) (by decide)) (by assumption)) | (simp only [zz_up]; simp_all; done)) rfl in_J2 tyJ2 tyJ2_ok nmJ2 0 rfl q161 (fun _ h => h) rfl (tyJ2_ok 0 (by decide)) (by first | rfl | exact zz_narZ (by first | exact zz_b01 _ | assumption | decide)) rfl (Nat.le_of_ble_eq_true rfl) dJ1_init_6 ?_
  refine zz_vret C dJ1_init_9 rfl rfl ?_
  exact ⟨rfl, zz_upsame hL⟩

theorem ct_J2_init {l : Launch} {D : va_G} {b0 : Nat} {h : zz_H} {L : Nat} (hL : h L = some (.inr (7, [.int 0, .null, .int 0])))  : zz_Ct l D b0 yJ2_init cJ2_init 1 (none) 3 60 0 0 [.ref L] h (fun v h' => v = none ∧ h' = zz_up h L (li_F 0 (D.2 1000 3) 0)) := by
  refine zz_Ct.of zy_J2_init.1 rfl ?_
  intro p e s m below meth c C
  first | refine zz_aload_n C dJ2_init_0 rfl ?_ | refine zz_aload_nN C dJ2_init_0 rfl ?_
  refine zz_callI C zy_J1_init (ct_J1_init hL) rfl q148 rfl rfl rfl rfl rfl dJ2_init_1 ⟨Nat.le_of_ble_eq_true rfl, Nat.le_of_ble_eq_true rfl⟩ (fun v hz hp => ?_)
  obtain ⟨rfl, ez⟩ := hp
  obtain rfl := ez.symm
  first | refine zz_aload_n C dJ2_init_4 rfl ?_ | refine zz_aload_nN C dJ2_init_4 rfl ?_
  refine zz_gets C rfl (zz_sDEFAULTCAPACITY_EMPTY_ELEMENTDATA C) q155 (fun _ h => h) dJ2_init_5 ?_
  refine zz_put C rfl (by first | assumption | exact zz_us | exact zz_lk1 (by assumption) (by assumption) | exact zz_lk3 (hd _ _ (by decide) (by decide) (by decide)) (by assumption) | exact zz_uf (by assumption) (by assumption) | exact zz_lk3 (zz_xi (by assumption) (by assumption)) (zz_lk1 (by assumption) (by assumption)) | exact zz_lk3 (hd _ _ (by decide) (by decide) (by decide)) (zz_lk3 (hd _ _ (by decide) (by decide) (by decide)) (by assumption)) | (simp only [zz_up]; simp_all; done)) rfl in_J2 tyJ2 tyJ2_ok nmJ2 1 rfl q157 (fun _ h => h) rfl (tyJ2_ok 1 (by decide)) (by first | rfl | exact zz_narZ (by first | exact zz_b01 _ | assumption | decide)) rfl (Nat.le_of_ble_eq_true rfl) dJ2_init_8 ?_
  refine zz_vret C dJ2_init_11 rfl rfl ?_
  exact ⟨rfl, rfl⟩

theorem ct_J2_size {l : Launch} {D : va_G} {b0 : Nat} {h : zz_H} {L ar n : Nat} {mc : Int32} (hL : h L = some (li_F mc ar n))  : zz_Ct l D b0 yJ2_size cJ2_size 1 (some .int) 0 0 0 0 [.ref L] h (fun v h' => v = some (.int (nI n)) ∧ h' = h) := by
  refine zz_Ct.of zy_J2_size rfl ?_
  intro p e s m below meth c C
  first | refine zz_aload_n C dJ2_size_0 rfl ?_ | refine zz_aload_nN C dJ2_size_0 rfl ?_
  refine zz_get C rfl (by first | assumption | exact zz_us | exact zz_lk1 (by assumption) (by assumption) | exact zz_lk3 (hd _ _ (by decide) (by decide) (by decide)) (by assumption) | exact zz_uf (by assumption) (by assumption) | exact zz_lk3 (zz_xi (by assumption) (by assumption)) (zz_lk1 (by assumption) (by assumption)) | exact zz_lk3 (hd _ _ (by decide) (by decide) (by decide)) (zz_lk3 (hd _ _ (by decide) (by decide) (by decide)) (by assumption)) | (simp only [zz_up]; simp_all; done)) rfl in_J2 2 rfl q160 (fun _ h => h) (by first | rfl | assumption) dJ2_size_1 ?_
  refine zz_iret C dJ2_size_4 rfl rfl ?_
  exact ⟨rfl, rfl⟩

theorem ct_J2_isEmpty {l : Launch} {D : va_G} {b0 : Nat} {h : zz_H} {L ar n : Nat} {mc : Int32} (hL : h L = some (li_F mc ar n))  : zz_Ct l D b0 yJ2_isEmpty cJ2_isEmpty 1 (some .boolean) 0 0 0 0 [.ref L] h (fun v h' => v = some (.int (zz_b (decide (nI n = 0)))) ∧ h' = h) := by
  refine zz_Ct.of zy_J2_isEmpty rfl ?_
  intro p e s m below meth c C
  first | refine zz_aload_n C dJ2_isEmpty_0 rfl ?_ | refine zz_aload_nN C dJ2_isEmpty_0 rfl ?_
  refine zz_get C rfl (by first | assumption | exact zz_us | exact zz_lk1 (by assumption) (by assumption) | exact zz_lk3 (hd _ _ (by decide) (by decide) (by decide)) (by assumption) | exact zz_uf (by assumption) (by assumption) | exact zz_lk3 (zz_xi (by assumption) (by assumption)) (zz_lk1 (by assumption) (by assumption)) | exact zz_lk3 (hd _ _ (by decide) (by decide) (by decide)) (zz_lk3 (hd _ _ (by decide) (by decide) (by decide)) (by assumption)) | (simp only [zz_up]; simp_all; done)) rfl in_J2 2 rfl q160 (fun _ h => h) (by first | rfl | assumption) dJ2_isEmpty_1 ?_
  refine zz_if_ne (tgt := 11) C dJ2_isEmpty_4 (by decide) (fun c4 => ?_) (fun c4 => ?_)
  · refine zz_iconst (v := 0) C dJ2_isEmpty_11 (by decide) ?_
    refine zz_zret0 C (zz_narZ (by first | exact zz_b01 _ | decide | assumption)) dJ2_isEmpty_12 rfl rfl ?_
    first | exact ⟨by rw [decide_eq_true c4]; rfl, rfl⟩ | exact ⟨by rw [decide_eq_false c4]; rfl, rfl⟩
  · refine zz_iconst (v := 1) C dJ2_isEmpty_7 (by decide) ?_
    refine zz_goto (tgt := 12) C dJ2_isEmpty_8 (by decide) ?_
    refine zz_zret0 C (zz_narZ (by first | exact zz_b01 _ | decide | assumption)) dJ2_isEmpty_12 rfl rfl ?_
    first | exact ⟨by rw [decide_eq_true c4]; rfl, rfl⟩ | exact ⟨by rw [decide_eq_false c4]; rfl, rfl⟩

theorem ct_J8_checkIndexR {l : Launch} {D : va_G} {b0 : Nat} {h : zz_H} {v0 v1 : Int32} (h0 : ¬ v0 < 0) (h1 : v0 < v1) {t : Nat} : zz_Ct l D b0 yJ8_checkIndex cJ8_checkIndex 3 (some .int) 0 0 0 0 [.int v0, .int v1, .ref t] h (fun v h' => v = some (.int (v0)) ∧ h' = h) := by
  refine zz_Ct.of zy_J8_checkIndex.1 rfl ?_
  intro p e s m below meth c C
  refine zz_iload_n C dJ8_checkIndex_0 rfl ?_
  refine zz_if_lt (tgt := 9) C dJ8_checkIndex_1 (by decide) (fun c1 => ?_) (fun c1 => ?_)
  · exact absurd c1 h0
  · refine zz_iload_n C dJ8_checkIndex_4 rfl ?_
    refine zz_iload_n C dJ8_checkIndex_5 rfl ?_
    refine zz_icmp_lt (tgt := 16) C dJ8_checkIndex_6 (by decide) (fun c6 => ?_) (fun c6 => ?_)
    · refine zz_iload_n C dJ8_checkIndex_16 rfl ?_
      refine zz_iret C dJ8_checkIndex_17 rfl rfl ?_
      exact ⟨rfl, rfl⟩
    · exact absurd h1 c6

theorem ct_J8_checkIndex {l : Launch} {D : va_G} {b0 : Nat} {h : zz_H} {v0 v1 : Int32} (h0 : ¬ v0 < 0) (h1 : v0 < v1)  : zz_Ct l D b0 yJ8_checkIndex cJ8_checkIndex 3 (some .int) 0 0 0 0 [.int v0, .int v1, .null] h (fun v h' => v = some (.int (v0)) ∧ h' = h) := by
  refine zz_Ct.of zy_J8_checkIndex.1 rfl ?_
  intro p e s m below meth c C
  refine zz_iload_n C dJ8_checkIndex_0 rfl ?_
  refine zz_if_lt (tgt := 9) C dJ8_checkIndex_1 (by decide) (fun c1 => ?_) (fun c1 => ?_)
  · exact absurd c1 h0
  · refine zz_iload_n C dJ8_checkIndex_4 rfl ?_
    refine zz_iload_n C dJ8_checkIndex_5 rfl ?_
    refine zz_icmp_lt (tgt := 16) C dJ8_checkIndex_6 (by decide) (fun c6 => ?_) (fun c6 => ?_)
    · refine zz_iload_n C dJ8_checkIndex_16 rfl ?_
      refine zz_iret C dJ8_checkIndex_17 rfl rfl ?_
      exact ⟨rfl, rfl⟩
    · exact absurd h1 c6

theorem ct_J7_checkIndex {l : Launch} {D : va_G} {b0 : Nat} {h : zz_H} {v0 v1 : Int32} (h0 : ¬ v0 < 0) (h1 : v0 < v1)  : zz_Ct l D b0 yJ7_checkIndex cJ7_checkIndex 2 (some .int) 1 22 0 0 [.int v0, .int v1] h (fun v h' => v = some (.int (v0)) ∧ h' = h) := by
  refine zz_Ct.of zy_J7_checkIndex.1 rfl ?_
  intro p e s m below meth c C
  refine zz_iload_n C dJ7_checkIndex_0 rfl ?_
  refine zz_iload_n C dJ7_checkIndex_1 rfl ?_
  refine zz_null C dJ7_checkIndex_2 ?_
  refine zz_callS C zy_J8_checkIndex (ct_J8_checkIndex h0 h1) rfl q316 rfl rfl rfl rfl rfl dJ7_checkIndex_3 ⟨Nat.le_of_ble_eq_true rfl, Nat.le_of_ble_eq_true rfl⟩ (fun v hz hp => ?_)
  obtain ⟨rfl, ez⟩ := hp
  obtain rfl := ez.symm
  refine zz_iret C dJ7_checkIndex_6 rfl rfl ?_
  exact ⟨rfl, rfl⟩

theorem ct_J2_elementData {l : Launch} {D : va_G} {b0 : Nat} {h : zz_H} {L ar n : Nat} {mc : Int32} {cap : Nat} {f : Nat → Option Nat} {v0 : Int32} (j : Nat) (hv0 : v0 = nI j) {e0 : Nat} (he : f j = some e0) (hj : j < cap) (hL : h L = some (li_F mc ar n)) (hA : h ar = some (li_T D cap f)) (hcap : cap ≤ 150)  : zz_Ct l D b0 yJ2_elementData cJ2_elementData 2 (some (.object "java/lang/Object")) 0 0 0 0 [.ref L, .int v0] h (fun v h' => v = some (.ref e0) ∧ h' = h) := by
  refine zz_Ct.of zy_J2_elementData.1 rfl ?_
  intro p e s m below meth c C
  first | refine zz_aload_n C dJ2_elementData_0 rfl ?_ | refine zz_aload_nN C dJ2_elementData_0 rfl ?_
  refine zz_get C rfl (by first | assumption | exact zz_us | exact zz_lk1 (by assumption) (by assumption) | exact zz_lk3 (hd _ _ (by decide) (by decide) (by decide)) (by assumption) | exact zz_uf (by assumption) (by assumption) | exact zz_lk3 (zz_xi (by assumption) (by assumption)) (zz_lk1 (by assumption) (by assumption)) | exact zz_lk3 (hd _ _ (by decide) (by decide) (by decide)) (zz_lk3 (hd _ _ (by decide) (by decide) (by decide)) (by assumption)) | (simp only [zz_up]; simp_all; done)) rfl in_J2 1 rfl q157 (fun _ h => h) (by first | rfl | assumption) dJ2_elementData_1 ?_
  refine zz_iload_n C dJ2_elementData_4 rfl ?_
  refine zz_aaldO C (by first | assumption | exact zz_us | exact zz_lk1 (by assumption) (by assumption) | exact zz_lk3 (hd _ _ (by decide) (by decide) (by decide)) (by assumption) | exact zz_uf (by assumption) (by assumption) | exact zz_lk3 (zz_xi (by assumption) (by assumption)) (zz_lk1 (by assumption) (by assumption)) | exact zz_lk3 (hd _ _ (by decide) (by decide) (by decide)) (zz_lk3 (hd _ _ (by decide) (by decide) (by decide)) (by assumption)) | (simp only [zz_up]; simp_all; done)) hv0 (by omega) (by omega) (show va_rf (f j) = .ref e0 from by rw [he]; rfl) dJ2_elementData_5 ?_
  refine zz_aret C (Or.inl ⟨_, rfl⟩) (Or.inr ⟨_, rfl⟩) dJ2_elementData_6 rfl rfl ?_
  exact ⟨rfl, rfl⟩

theorem ct_J2_get {l : Launch} {D : va_G} {b0 : Nat} {h : zz_H} {L ar n : Nat} {mc : Int32} {cap : Nat} {f : Nat → Option Nat} {v0 : Int32} (j : Nat) (hv0 : v0 = nI j) {e0 : Nat} (he : f j = some e0) (hj : j < n) (hn : n ≤ cap) (hL : h L = some (li_F mc ar n)) (hA : h ar = some (li_T D cap f)) (hcap : cap ≤ 150)  : zz_Ct l D b0 yJ2_get cJ2_get 2 (some (.object "java/lang/Object")) 2 43 0 0 [.ref L, .int v0] h (fun v h' => v = some (.ref e0) ∧ h' = h) := by
  refine zz_Ct.of zy_J2_get rfl ?_
  intro p e s m below meth c C
  refine zz_iload_n C dJ2_get_0 rfl ?_
  first | refine zz_aload_n C dJ2_get_1 rfl ?_ | refine zz_aload_nN C dJ2_get_1 rfl ?_
  refine zz_get C rfl (by first | assumption | exact zz_us | exact zz_lk1 (by assumption) (by assumption) | exact zz_lk3 (hd _ _ (by decide) (by decide) (by decide)) (by assumption) | exact zz_uf (by assumption) (by assumption) | exact zz_lk3 (zz_xi (by assumption) (by assumption)) (zz_lk1 (by assumption) (by assumption)) | exact zz_lk3 (hd _ _ (by decide) (by decide) (by decide)) (zz_lk3 (hd _ _ (by decide) (by decide) (by decide)) (by assumption)) | (simp only [zz_up]; simp_all; done)) rfl in_J2 2 rfl q160 (fun _ h => h) (by first | rfl | assumption) dJ2_get_2 ?_
  refine zz_callS C zy_J7_checkIndex (ct_J7_checkIndex (by rw [hv0]; exact nI_pos (by omega)) (by rw [hv0]; exact nI_lt (by omega) (by omega))) rfl q313 rfl rfl rfl rfl rfl dJ2_get_5 ⟨Nat.le_of_ble_eq_true rfl, Nat.le_of_ble_eq_true rfl⟩ (fun v hz hp => ?_)
  obtain ⟨rfl, ez⟩ := hp
  obtain rfl := ez.symm
  refine zz_pop C dJ2_get_8 rfl ?_
  first | refine zz_aload_n C dJ2_get_9 rfl ?_ | refine zz_aload_nN C dJ2_get_9 rfl ?_
  refine zz_iload_n C dJ2_get_10 rfl ?_
  refine zz_callV C zy_J2_elementData (ct_J2_elementData j hv0 he (by omega) hL hA hcap) rfl q608 (by first | assumption | exact zz_us | exact zz_lk1 (by assumption) (by assumption) | exact zz_lk3 (hd _ _ (by decide) (by decide) (by decide)) (by assumption) | exact zz_uf (by assumption) (by assumption) | exact zz_lk3 (zz_xi (by assumption) (by assumption)) (zz_lk1 (by assumption) (by assumption)) | exact zz_lk3 (hd _ _ (by decide) (by decide) (by decide)) (zz_lk3 (hd _ _ (by decide) (by decide) (by decide)) (by assumption)) | (simp only [zz_up]; simp_all; done)) rfl rfl rfl rfl rfl rfl dJ2_get_11 ⟨Nat.le_of_ble_eq_true rfl, Nat.le_of_ble_eq_true rfl⟩ (fun v hz hp => ?_)
  obtain ⟨rfl, ez⟩ := hp
  obtain rfl := ez.symm
  refine zz_aret C (Or.inl ⟨_, rfl⟩) (Or.inr ⟨_, rfl⟩) dJ2_get_14 rfl rfl ?_
  exact ⟨rfl, rfl⟩

theorem ct_J9_init {l : Launch} {D : va_G} {b0 : Nat} {h : zz_H} {L ar n : Nat} {mc : Int32} {it : Nat} (hI : h it = some (.inr (8, [.int 0, .int 0, .int 0, .null]))) (hL : h L = some (li_F mc ar n))  : zz_Ct l D b0 yJ9_init cJ9_init 2 (none) 1 20 0 0 [.ref it, .ref L] h (fun v h' => v = none ∧ h' = zz_up h it (it_F 0 (-1) mc L)) := by
  refine zz_Ct.of zy_J9_init.1 rfl ?_
  intro p e s m below meth c C
  first | refine zz_aload_n C dJ9_init_0 rfl ?_ | refine zz_aload_nN C dJ9_init_0 rfl ?_
  first | refine zz_aload_n C dJ9_init_1 rfl ?_ | refine zz_aload_nN C dJ9_init_1 rfl ?_
  refine zz_putF C rfl (by first | assumption | exact zz_us | exact zz_lk1 (by assumption) (by assumption) | exact zz_lk3 (hd _ _ (by decide) (by decide) (by decide)) (by assumption) | exact zz_uf (by assumption) (by assumption) | exact zz_lk3 (zz_xi (by assumption) (by assumption)) (zz_lk1 (by assumption) (by assumption)) | exact zz_lk3 (hd _ _ (by decide) (by decide) (by decide)) (zz_lk3 (hd _ _ (by decide) (by decide) (by decide)) (by assumption)) | (simp only [zz_up]; simp_all; done)) rfl in_J9 tyJ9 tyJ9_ok nmJ9 3 rfl q350 (fun _ h => h) rfl rfl rfl (tyJ9_ok 3 (by decide)) (by first | rfl | exact zz_narZ (by first | exact zz_b01 _ | assumption | decide)) rfl (Nat.le_of_ble_eq_true rfl) dJ9_init_2 ?_
  first | refine zz_aload_n C dJ9_init_5 rfl ?_ | refine zz_aload_nN C dJ9_init_5 rfl ?_
  refine zz_objInit C rfl q346 q123 q124 dJ9_init_6 rfl rfl rfl ?_
  first | refine zz_aload_n C dJ9_init_9 rfl ?_ | refine zz_aload_nN C dJ9_init_9 rfl ?_
  refine zz_iconst (v := (-1)) C dJ9_init_10 (by decide) ?_
  refine zz_put C rfl (by first | assumption | exact zz_us | exact zz_lk1 (by assumption) (by assumption) | exact zz_lk3 (hd _ _ (by decide) (by decide) (by decide)) (by assumption) | exact zz_uf (by assumption) (by assumption) | exact zz_lk3 (zz_xi (by assumption) (by assumption)) (zz_lk1 (by assumption) (by assumption)) | exact zz_lk3 (hd _ _ (by decide) (by decide) (by decide)) (zz_lk3 (hd _ _ (by decide) (by decide) (by decide)) (by assumption)) | (simp only [zz_up]; simp_all; done)) rfl in_J9 tyJ9 tyJ9_ok nmJ9 1 rfl q348 (fun _ h => h) rfl (tyJ9_ok 1 (by decide)) (by first | rfl | exact zz_narZ (by first | exact zz_b01 _ | assumption | decide)) rfl (Nat.le_of_ble_eq_true rfl) dJ9_init_11 ?_
  first | refine zz_aload_n C dJ9_init_14 rfl ?_ | refine zz_aload_nN C dJ9_init_14 rfl ?_
  first | refine zz_aload_n C dJ9_init_15 rfl ?_ | refine zz_aload_nN C dJ9_init_15 rfl ?_
  refine zz_get C rfl (by first | assumption | exact zz_us | exact zz_lk1 (by assumption) (by assumption) | exact zz_lk3 (hd _ _ (by decide) (by decide) (by decide)) (by assumption) | exact zz_uf (by assumption) (by assumption) | exact zz_lk3 (zz_xi (by assumption) (by assumption)) (zz_lk1 (by assumption) (by assumption)) | exact zz_lk3 (hd _ _ (by decide) (by decide) (by decide)) (zz_lk3 (hd _ _ (by decide) (by decide) (by decide)) (by assumption)) | (simp only [zz_up]; simp_all; done)) rfl in_J9 3 rfl q350 (fun _ h => h) (by first | rfl | assumption) dJ9_init_16 ?_
  refine zz_get C rfl (zz_lk3 (zz_cc hL hI (by decide)) (zz_lk3 (zz_cc hL hI (by decide)) hL)) rfl in_J2 0 rfl q162 (fun x h => u_same (C.2.2.2.2.1 _ q163) x h) (by first | rfl | assumption) dJ9_init_19 ?_
  refine zz_put C rfl (by first | assumption | exact zz_us | exact zz_lk1 (by assumption) (by assumption) | exact zz_lk3 (hd _ _ (by decide) (by decide) (by decide)) (by assumption) | exact zz_uf (by assumption) (by assumption) | exact zz_lk3 (zz_xi (by assumption) (by assumption)) (zz_lk1 (by assumption) (by assumption)) | exact zz_lk3 (hd _ _ (by decide) (by decide) (by decide)) (zz_lk3 (hd _ _ (by decide) (by decide) (by decide)) (by assumption)) | (simp only [zz_up]; simp_all; done)) rfl in_J9 tyJ9 tyJ9_ok nmJ9 2 rfl q349 (fun _ h => h) rfl (tyJ9_ok 2 (by decide)) (by first | rfl | exact zz_narZ (by first | exact zz_b01 _ | assumption | decide)) rfl (Nat.le_of_ble_eq_true rfl) dJ9_init_22 ?_
  refine zz_vret C dJ9_init_25 rfl rfl ?_
  exact ⟨rfl, by rw [zz_upup, zz_upup]; rfl⟩

theorem ct_J2_iterator {l : Launch} {D : va_G} {b0 : Nat} {h : zz_H} {L ar n : Nat} {mc : Int32} (hL : h L = some (li_F mc ar n))  : zz_Ct l D b0 yJ2_iterator cJ2_iterator 1 (some (.object "java/util/Iterator")) 2 41 1 4 [.ref L] h (fun v h' => ∃ o : Nat, v = some (.ref o) ∧ h o = none ∧ b0 ≤ o ∧ h' = zz_up h o (it_F 0 (-1) mc L)) := by
  refine zz_Ct.of zy_J2_iterator rfl ?_
  intro p e s m below meth c C
  refine zz_new (ci := 8) (fs := [.int 0, .int 0, .int 0, .null]) (Cn := RJ9) (T := TJ9) (N := 4) C rfl rfl in_J9 tyJ9 tyJ9_ok q341 q342 q102 (by intro j hj; match j, hj with | 0, _ => rfl | 1, _ => rfl | 2, _ => rfl | 3, _ => rfl) rfl rfl dJ2_iterator_0 (fun o0 n0 b0 => ?_)
  refine zz_dup C dJ2_iterator_3 rfl ?_
  first | refine zz_aload_n C dJ2_iterator_4 rfl ?_ | refine zz_aload_nN C dJ2_iterator_4 rfl ?_
  refine zz_callI C zy_J9_init (ct_J9_init zz_us (zz_uf hL n0)) rfl q343 rfl rfl rfl rfl rfl dJ2_iterator_5 ⟨Nat.le_of_ble_eq_true rfl, Nat.le_of_ble_eq_true rfl⟩ (fun v hz hp => ?_)
  obtain ⟨rfl, ez⟩ := hp
  obtain rfl := ez.symm
  refine zz_aret C (Or.inl ⟨_, rfl⟩) (Or.inr ⟨_, rfl⟩) dJ2_iterator_8 rfl rfl ?_
  exact ⟨o0, rfl, n0, b0, zz_upup⟩

theorem ct_J9_hasNext {l : Launch} {D : va_G} {b0 : Nat} {h : zz_H} {L ar n : Nat} {mc : Int32} {it k : Nat} {lr : Int32} (hk : k ≤ n) (hn : n ≤ 150) (hI : h it = some (it_F k lr mc L)) (hL : h L = some (li_F mc ar n))  : zz_Ct l D b0 yJ9_hasNext cJ9_hasNext 1 (some .boolean) 0 0 0 0 [.ref it] h (fun v h' => v = some (.int (zz_b (decide (k < n)))) ∧ h' = h) := by
  refine zz_Ct.of zy_J9_hasNext rfl ?_
  intro p e s m below meth c C
  first | refine zz_aload_n C dJ9_hasNext_0 rfl ?_ | refine zz_aload_nN C dJ9_hasNext_0 rfl ?_
  refine zz_get C rfl (by first | assumption | exact zz_us | exact zz_lk1 (by assumption) (by assumption) | exact zz_lk3 (hd _ _ (by decide) (by decide) (by decide)) (by assumption) | exact zz_uf (by assumption) (by assumption) | exact zz_lk3 (zz_xi (by assumption) (by assumption)) (zz_lk1 (by assumption) (by assumption)) | exact zz_lk3 (hd _ _ (by decide) (by decide) (by decide)) (zz_lk3 (hd _ _ (by decide) (by decide) (by decide)) (by assumption)) | (simp only [zz_up]; simp_all; done)) rfl in_J9 0 rfl q347 (fun _ h => h) (by first | rfl | assumption) dJ9_hasNext_1 ?_
  first | refine zz_aload_n C dJ9_hasNext_4 rfl ?_ | refine zz_aload_nN C dJ9_hasNext_4 rfl ?_
  refine zz_get C rfl (by first | assumption | exact zz_us | exact zz_lk1 (by assumption) (by assumption) | exact zz_lk3 (hd _ _ (by decide) (by decide) (by decide)) (by assumption) | exact zz_uf (by assumption) (by assumption) | exact zz_lk3 (zz_xi (by assumption) (by assumption)) (zz_lk1 (by assumption) (by assumption)) | exact zz_lk3 (hd _ _ (by decide) (by decide) (by decide)) (zz_lk3 (hd _ _ (by decide) (by decide) (by decide)) (by assumption)) | (simp only [zz_up]; simp_all; done)) rfl in_J9 3 rfl q350 (fun _ h => h) (by first | rfl | assumption) dJ9_hasNext_5 ?_
  refine zz_getN C rfl (by first | assumption | exact zz_us | exact zz_lk1 (by assumption) (by assumption) | exact zz_lk3 (hd _ _ (by decide) (by decide) (by decide)) (by assumption) | exact zz_uf (by assumption) (by assumption) | exact zz_lk3 (zz_xi (by assumption) (by assumption)) (zz_lk1 (by assumption) (by assumption)) | exact zz_lk3 (hd _ _ (by decide) (by decide) (by decide)) (zz_lk3 (hd _ _ (by decide) (by decide) (by decide)) (by assumption)) | (simp only [zz_up]; simp_all; done)) rfl in_J2 2 rfl (zz_nest C 1 rfl) (fun _ h => h) (by first | rfl | assumption) dJ9_hasNext_8 ?_
  refine zz_icmp_eq (tgt := 18) C dJ9_hasNext_11 (by decide) (fun c11 => ?_) (fun c11 => ?_)
  · refine zz_iconst (v := 0) C dJ9_hasNext_18 (by decide) ?_
    refine zz_zret0 C (zz_narZ (by first | exact zz_b01 _ | decide | assumption)) dJ9_hasNext_19 rfl rfl ?_
    first | exact ⟨by rw [decide_eq_false (by have := (nI_eq (by omega) (by omega)).mp c11; omega)]; rfl, rfl⟩ | exact ⟨by rw [decide_eq_true (by have : k ≠ n := fun q => c11 (by rw [q]); omega)]; rfl, rfl⟩
  · refine zz_iconst (v := 1) C dJ9_hasNext_14 (by decide) ?_
    refine zz_goto (tgt := 19) C dJ9_hasNext_15 (by decide) ?_
    refine zz_zret0 C (zz_narZ (by first | exact zz_b01 _ | decide | assumption)) dJ9_hasNext_19 rfl rfl ?_
    first | exact ⟨by rw [decide_eq_false (by have := (nI_eq (by omega) (by omega)).mp c11; omega)]; rfl, rfl⟩ | exact ⟨by rw [decide_eq_true (by have : k ≠ n := fun q => c11 (by rw [q]); omega)]; rfl, rfl⟩

theorem ct_J9_checkForComodification {l : Launch} {D : va_G} {b0 : Nat} {h : zz_H} {L ar n : Nat} {mc : Int32} {it k : Nat} {lr : Int32} (hI : h it = some (it_F k lr mc L)) (hL : h L = some (li_F mc ar n))  : zz_Ct l D b0 yJ9_checkForComodification cJ9_checkForComodification 1 (none) 0 0 0 0 [.ref it] h (fun v h' => v = none ∧ h' = h) := by
  refine zz_Ct.of zy_J9_checkForComodification.1 rfl ?_
  intro p e s m below meth c C
  first | refine zz_aload_n C dJ9_checkForComodification_0 rfl ?_ | refine zz_aload_nN C dJ9_checkForComodification_0 rfl ?_
  refine zz_get C rfl (by first | assumption | exact zz_us | exact zz_lk1 (by assumption) (by assumption) | exact zz_lk3 (hd _ _ (by decide) (by decide) (by decide)) (by assumption) | exact zz_uf (by assumption) (by assumption) | exact zz_lk3 (zz_xi (by assumption) (by assumption)) (zz_lk1 (by assumption) (by assumption)) | exact zz_lk3 (hd _ _ (by decide) (by decide) (by decide)) (zz_lk3 (hd _ _ (by decide) (by decide) (by decide)) (by assumption)) | (simp only [zz_up]; simp_all; done)) rfl in_J9 3 rfl q350 (fun _ h => h) (by first | rfl | assumption) dJ9_checkForComodification_1 ?_
  refine zz_get C rfl (by first | assumption | exact zz_us | exact zz_lk1 (by assumption) (by assumption) | exact zz_lk3 (hd _ _ (by decide) (by decide) (by decide)) (by assumption) | exact zz_uf (by assumption) (by assumption) | exact zz_lk3 (zz_xi (by assumption) (by assumption)) (zz_lk1 (by assumption) (by assumption)) | exact zz_lk3 (hd _ _ (by decide) (by decide) (by decide)) (zz_lk3 (hd _ _ (by decide) (by decide) (by decide)) (by assumption)) | (simp only [zz_up]; simp_all; done)) rfl in_J2 0 rfl q162 (fun x h => u_same (C.2.2.2.2.1 _ q163) x h) (by first | rfl | assumption) dJ9_checkForComodification_4 ?_
  first | refine zz_aload_n C dJ9_checkForComodification_7 rfl ?_ | refine zz_aload_nN C dJ9_checkForComodification_7 rfl ?_
  refine zz_get C rfl (by first | assumption | exact zz_us | exact zz_lk1 (by assumption) (by assumption) | exact zz_lk3 (hd _ _ (by decide) (by decide) (by decide)) (by assumption) | exact zz_uf (by assumption) (by assumption) | exact zz_lk3 (zz_xi (by assumption) (by assumption)) (zz_lk1 (by assumption) (by assumption)) | exact zz_lk3 (hd _ _ (by decide) (by decide) (by decide)) (zz_lk3 (hd _ _ (by decide) (by decide) (by decide)) (by assumption)) | (simp only [zz_up]; simp_all; done)) rfl in_J9 2 rfl q349 (fun _ h => h) (by first | rfl | assumption) dJ9_checkForComodification_8 ?_
  refine zz_icmp_eq (tgt := 22) C dJ9_checkForComodification_11 (by decide) (fun c11 => ?_) (fun c11 => ?_)
  · refine zz_vret C dJ9_checkForComodification_22 rfl rfl ?_
    exact ⟨rfl, rfl⟩
  · exact absurd rfl c11

theorem ct_J9_next {l : Launch} {D : va_G} {b0 : Nat} {h : zz_H} {L ar n : Nat} {mc : Int32} {it k : Nat} {lr : Int32} {cap : Nat} {f : Nat → Option Nat} (hk : k < n) (hn : n ≤ cap) {e0 : Nat} (he : f k = some e0) (hI : h it = some (it_F k lr mc L)) (hL : h L = some (li_F mc ar n)) (hA : h ar = some (li_T D cap f)) (hcap : cap ≤ 150)  : zz_Ct l D b0 yJ9_next cJ9_next 3 (some (.object "java/lang/Object")) 1 20 0 0 [.ref it] h (fun v h' => v = some (.ref e0) ∧ h' = zz_up h it (it_F (k + 1) (nI k) mc L)) := by
  refine zz_Ct.of zy_J9_next rfl ?_
  intro p e s m below meth c C
  first | refine zz_aload_n C dJ9_next_0 rfl ?_ | refine zz_aload_nN C dJ9_next_0 rfl ?_
  refine zz_callV C zy_J9_checkForComodification (ct_J9_checkForComodification hI hL) rfl q379 (by first | assumption | exact zz_us | exact zz_lk1 (by assumption) (by assumption) | exact zz_lk3 (hd _ _ (by decide) (by decide) (by decide)) (by assumption) | exact zz_uf (by assumption) (by assumption) | exact zz_lk3 (zz_xi (by assumption) (by assumption)) (zz_lk1 (by assumption) (by assumption)) | exact zz_lk3 (hd _ _ (by decide) (by decide) (by decide)) (zz_lk3 (hd _ _ (by decide) (by decide) (by decide)) (by assumption)) | (simp only [zz_up]; simp_all; done)) rfl rfl rfl rfl rfl rfl dJ9_next_1 ⟨Nat.le_of_ble_eq_true rfl, Nat.le_of_ble_eq_true rfl⟩ (fun v hz hp => ?_)
  obtain ⟨rfl, ez⟩ := hp
  obtain rfl := ez.symm
  first | refine zz_aload_n C dJ9_next_4 rfl ?_ | refine zz_aload_nN C dJ9_next_4 rfl ?_
  refine zz_get C rfl (by first | assumption | exact zz_us | exact zz_lk1 (by assumption) (by assumption) | exact zz_lk3 (hd _ _ (by decide) (by decide) (by decide)) (by assumption) | exact zz_uf (by assumption) (by assumption) | exact zz_lk3 (zz_xi (by assumption) (by assumption)) (zz_lk1 (by assumption) (by assumption)) | exact zz_lk3 (hd _ _ (by decide) (by decide) (by decide)) (zz_lk3 (hd _ _ (by decide) (by decide) (by decide)) (by assumption)) | (simp only [zz_up]; simp_all; done)) rfl in_J9 0 rfl q347 (fun _ h => h) (by first | rfl | assumption) dJ9_next_5 ?_
  refine zz_istore_n C dJ9_next_8 (by decide) ?_
  refine zz_iload_n C dJ9_next_9 rfl ?_
  first | refine zz_aload_n C dJ9_next_10 rfl ?_ | refine zz_aload_nN C dJ9_next_10 rfl ?_
  refine zz_get C rfl (by first | assumption | exact zz_us | exact zz_lk1 (by assumption) (by assumption) | exact zz_lk3 (hd _ _ (by decide) (by decide) (by decide)) (by assumption) | exact zz_uf (by assumption) (by assumption) | exact zz_lk3 (zz_xi (by assumption) (by assumption)) (zz_lk1 (by assumption) (by assumption)) | exact zz_lk3 (hd _ _ (by decide) (by decide) (by decide)) (zz_lk3 (hd _ _ (by decide) (by decide) (by decide)) (by assumption)) | (simp only [zz_up]; simp_all; done)) rfl in_J9 3 rfl q350 (fun _ h => h) (by first | rfl | assumption) dJ9_next_11 ?_
  refine zz_getN C rfl (by first | assumption | exact zz_us | exact zz_lk1 (by assumption) (by assumption) | exact zz_lk3 (hd _ _ (by decide) (by decide) (by decide)) (by assumption) | exact zz_uf (by assumption) (by assumption) | exact zz_lk3 (zz_xi (by assumption) (by assumption)) (zz_lk1 (by assumption) (by assumption)) | exact zz_lk3 (hd _ _ (by decide) (by decide) (by decide)) (zz_lk3 (hd _ _ (by decide) (by decide) (by decide)) (by assumption)) | (simp only [zz_up]; simp_all; done)) rfl in_J2 2 rfl (zz_nest C 1 rfl) (fun _ h => h) (by first | rfl | assumption) dJ9_next_14 ?_
  refine zz_icmp_lt (tgt := 28) C dJ9_next_17 (by decide) (fun c17 => ?_) (fun c17 => ?_)
  · first | refine zz_aload_n C dJ9_next_28 rfl ?_ | refine zz_aload_nN C dJ9_next_28 rfl ?_
    refine zz_get C rfl (by first | assumption | exact zz_us | exact zz_lk1 (by assumption) (by assumption) | exact zz_lk3 (hd _ _ (by decide) (by decide) (by decide)) (by assumption) | exact zz_uf (by assumption) (by assumption) | exact zz_lk3 (zz_xi (by assumption) (by assumption)) (zz_lk1 (by assumption) (by assumption)) | exact zz_lk3 (hd _ _ (by decide) (by decide) (by decide)) (zz_lk3 (hd _ _ (by decide) (by decide) (by decide)) (by assumption)) | (simp only [zz_up]; simp_all; done)) rfl in_J9 3 rfl q350 (fun _ h => h) (by first | rfl | assumption) dJ9_next_29 ?_
    refine zz_get C rfl (by first | assumption | exact zz_us | exact zz_lk1 (by assumption) (by assumption) | exact zz_lk3 (hd _ _ (by decide) (by decide) (by decide)) (by assumption) | exact zz_uf (by assumption) (by assumption) | exact zz_lk3 (zz_xi (by assumption) (by assumption)) (zz_lk1 (by assumption) (by assumption)) | exact zz_lk3 (hd _ _ (by decide) (by decide) (by decide)) (zz_lk3 (hd _ _ (by decide) (by decide) (by decide)) (by assumption)) | (simp only [zz_up]; simp_all; done)) rfl in_J2 1 rfl q158 (fun _ h => h) (by first | rfl | assumption) dJ9_next_32 ?_
    refine zz_astore_n C dJ9_next_35 (by decide) ?_
    refine zz_iload_n C dJ9_next_36 rfl ?_
    first | refine zz_aload_n C dJ9_next_37 rfl ?_ | refine zz_aload_nN C dJ9_next_37 rfl ?_
    refine zz_alen C (by first | assumption | exact zz_us | exact zz_lk1 (by assumption) (by assumption) | exact zz_lk3 (hd _ _ (by decide) (by decide) (by decide)) (by assumption) | exact zz_uf (by assumption) (by assumption) | exact zz_lk3 (zz_xi (by assumption) (by assumption)) (zz_lk1 (by assumption) (by assumption)) | exact zz_lk3 (hd _ _ (by decide) (by decide) (by decide)) (zz_lk3 (hd _ _ (by decide) (by decide) (by decide)) (by assumption)) | (simp only [zz_up]; simp_all; done)) 3 rfl dJ9_next_38 ?_
    refine zz_icmp_lt (tgt := 50) C dJ9_next_39 (by decide) (fun c39 => ?_) (fun c39 => ?_)
    · first | refine zz_aload_n C dJ9_next_50 rfl ?_ | refine zz_aload_nN C dJ9_next_50 rfl ?_
      refine zz_iload_n C dJ9_next_51 rfl ?_
      refine zz_iconst (v := 1) C dJ9_next_52 (by decide) ?_
      refine zz_iadd C dJ9_next_53 ?_
      refine zz_put C rfl (by first | assumption | exact zz_us | exact zz_lk1 (by assumption) (by assumption) | exact zz_lk3 (hd _ _ (by decide) (by decide) (by decide)) (by assumption) | exact zz_uf (by assumption) (by assumption) | exact zz_lk3 (zz_xi (by assumption) (by assumption)) (zz_lk1 (by assumption) (by assumption)) | exact zz_lk3 (hd _ _ (by decide) (by decide) (by decide)) (zz_lk3 (hd _ _ (by decide) (by decide) (by decide)) (by assumption)) | (simp only [zz_up]; simp_all; done)) rfl in_J9 tyJ9 tyJ9_ok nmJ9 0 rfl q347 (fun _ h => h) rfl (tyJ9_ok 0 (by decide)) (by first | rfl | exact zz_narZ (by first | exact zz_b01 _ | assumption | decide)) rfl (Nat.le_of_ble_eq_true rfl) dJ9_next_54 ?_
      first | refine zz_aload_n C dJ9_next_57 rfl ?_ | refine zz_aload_nN C dJ9_next_57 rfl ?_
      first | refine zz_aload_n C dJ9_next_58 rfl ?_ | refine zz_aload_nN C dJ9_next_58 rfl ?_
      refine zz_iload_n C dJ9_next_59 rfl ?_
      refine zz_dup_x1 C dJ9_next_60 rfl rfl ?_
      refine zz_put C rfl (by first | assumption | exact zz_us | exact zz_lk1 (by assumption) (by assumption) | exact zz_lk3 (hd _ _ (by decide) (by decide) (by decide)) (by assumption) | exact zz_uf (by assumption) (by assumption) | exact zz_lk3 (zz_xi (by assumption) (by assumption)) (zz_lk1 (by assumption) (by assumption)) | exact zz_lk3 (hd _ _ (by decide) (by decide) (by decide)) (zz_lk3 (hd _ _ (by decide) (by decide) (by decide)) (by assumption)) | (simp only [zz_up]; simp_all; done)) rfl in_J9 tyJ9 tyJ9_ok nmJ9 1 rfl q348 (fun _ h => h) rfl (tyJ9_ok 1 (by decide)) (by first | rfl | exact zz_narZ (by first | exact zz_b01 _ | assumption | decide)) rfl (Nat.le_of_ble_eq_true rfl) dJ9_next_61 ?_
      refine zz_aaldO C (zz_lk2 (zz_lk2 hA hI) zz_us) rfl (by omega) (by omega) (show va_rf (f k) = .ref e0 from by rw [he]; rfl) dJ9_next_64 ?_
      refine zz_aret C (Or.inl ⟨_, rfl⟩) (Or.inr ⟨_, rfl⟩) dJ9_next_65 rfl rfl ?_
      exact ⟨rfl, by rw [zz_upup, nI_1]; rfl⟩
    · exact absurd (nI_lt (a := k) (b := cap) (by omega) (by omega)) c39
  · exact absurd (nI_lt hk (by omega)) c17

