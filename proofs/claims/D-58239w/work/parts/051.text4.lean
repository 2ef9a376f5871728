/-! the library: a character more, the length set, bits, numbers as bits, where a character stands -/
theorem ct_J3_append {l : Launch} {D : va_G} {b0 : Nat} {h : zz_H} {B va cap len : Nat} {ml : Int32} {g : Nat → Int32} {v1 : Int32} {q : Nat} (hv1 : v1 = nI q) (hq : q < 128) (hcap : cap ≤ 200) (hlc : len ≤ cap) (hfb : sg_B g) (hB : h B = some (sg_F va ml len)) (hV : h va = some (sg_T D cap g))  : zz_Ct l D b0 yJ3_append cJ3_append 2 (some (.object "java/lang/AbstractStringBuilder")) 4 130 1 1000 [.ref B, .int v1] h (fun v h' => ∃ (va' cap' : Nat) (g' : Nat → Int32), v = some (.ref B) ∧ h' = zz_up (zz_up h va' (sg_T D cap' g')) B (sg_F va' ml (len + 1)) ∧ (va' = va ∨ (h va' = none ∧ b0 ≤ va')) ∧ len < cap' ∧ (cap' = cap ∨ (cap < len + 1 ∧ cap' = 2 * cap + 2)) ∧ (∀ i : Nat, i < len → g' i = g i) ∧ g' len = nI q ∧ sg_B g') := by
  refine zz_Ct.of zy_J3_append rfl ?_
  intro p e s m below meth c C
  subst hv1
  first | refine zz_aload_n C dJ3_append_0 rfl ?_ | refine zz_aload_nN C dJ3_append_0 rfl ?_
  first | refine zz_aload_n C dJ3_append_1 rfl ?_ | refine zz_aload_nN C dJ3_append_1 rfl ?_
  refine zz_get C rfl (by first | assumption | exact zz_us | exact zz_lk1 (by assumption) (by assumption) | exact zz_lk3 (hd _ _ (by decide) (by decide) (by decide)) (by assumption) | exact zz_uf (by assumption) (by assumption) | exact zz_lk3 (zz_xi (by assumption) (by assumption)) (zz_lk1 (by assumption) (by assumption)) | exact zz_lk3 (hd _ _ (by decide) (by decide) (by decide)) (zz_lk3 (hd _ _ (by decide) (by decide) (by decide)) (by assumption)) | (simp only [zz_up]; simp_all; done)) rfl in_J4 3 rfl q250 (fun _ h => h) (by first | rfl | assumption) dJ3_append_2 ?_
  refine zz_iconst (v := 1) C dJ3_append_5 (by decide) ?_
  refine zz_iadd C dJ3_append_6 ?_
  refine zz_callP (Cn := "java/lang/StringBuilder") (owner := "java/lang/AbstractStringBuilder") (x2 := yJ3_ensureCapacityInternal) C zy_J3_ensureCapacityInternal (ct_J3_ensureCapacityInternal (len + 1) (nI_1 len) (by omega) hcap hlc hfb hB hV) rfl q933 q1598 (by first | exact List.mem_cons_self | exact List.mem_cons_of_mem _ List.mem_cons_self) q935 rfl zy_J3_ensureCapacityInternal.1 (by first | assumption | exact zz_us | exact zz_lk1 (by assumption) (by assumption) | exact zz_lk3 (hd _ _ (by decide) (by decide) (by decide)) (by assumption) | exact zz_uf (by assumption) (by assumption) | exact zz_lk3 (zz_xi (by assumption) (by assumption)) (zz_lk1 (by assumption) (by assumption)) | exact zz_lk3 (hd _ _ (by decide) (by decide) (by decide)) (zz_lk3 (hd _ _ (by decide) (by decide) (by decide)) (by assumption)) | (simp only [zz_up]; simp_all; done)) rfl rfl rfl rfl rfl rfl dJ3_append_7 ⟨Nat.le_of_ble_eq_true rfl, Nat.le_of_ble_eq_true rfl⟩ (fun v hz hp => ?_)
  obtain ⟨va', cap', g', rfl, ez, hR, hk', hcc⟩ := hp
  obtain rfl := ez.symm
  have hne : va' ≠ B := by
    rcases hR.1 with e | ⟨e, -⟩
    · rw [e]; exact zz_ix hV hB
    · exact fun e2 => by rw [e2, hB] at e; cases e
  have hcb : cap' ≤ 402 := by
    rcases hR.2.1 with e | e <;> omega
  first | refine zz_aload_n C dJ3_append_10 rfl ?_ | refine zz_aload_nN C dJ3_append_10 rfl ?_
  refine zz_callU (Cn := "java/lang/StringBuilder") (owner := "java/lang/AbstractStringBuilder") (x2 := yJ3_isLatin1) C zy_J3_isLatin1 (ct_J3_isLatin1 zz_us) rfl q951 q953 q954 q952 rfl zy_J3_isLatin1.1 (by first | assumption | exact zz_us | exact zz_lk1 (by assumption) (by assumption) | exact zz_lk3 (hd _ _ (by decide) (by decide) (by decide)) (by assumption) | exact zz_uf (by assumption) (by assumption) | exact zz_lk3 (zz_xi (by assumption) (by assumption)) (zz_lk1 (by assumption) (by assumption)) | exact zz_lk3 (hd _ _ (by decide) (by decide) (by decide)) (zz_lk3 (hd _ _ (by decide) (by decide) (by decide)) (by assumption)) | (simp only [zz_up]; simp_all; done)) rfl rfl rfl rfl rfl rfl dJ3_append_11 ⟨Nat.le_of_ble_eq_true rfl, Nat.le_of_ble_eq_true rfl⟩ (fun v hz hp => ?_)
  obtain ⟨rfl, ez⟩ := hp
  obtain rfl := ez.symm
  refine zz_if_eq (tgt := 45) C dJ3_append_14 (by decide) (fun c14 => ?_) (fun c14 => ?_)
  · exact absurd c14 (by decide)
  · refine zz_iload_n C dJ3_append_17 rfl ?_
    refine zz_callS C zy_J17_canEncode (ct_J17_canEncode (nI_le (b := 255) (by omega) (by omega))) rfl q956 rfl rfl rfl rfl rfl dJ3_append_18 ⟨Nat.le_of_ble_eq_true rfl, Nat.le_of_ble_eq_true rfl⟩ (fun v hz hp => ?_)
    obtain ⟨rfl, ez⟩ := hp
    obtain rfl := ez.symm
    refine zz_if_eq (tgt := 45) C dJ3_append_21 (by decide) (fun c21 => ?_) (fun c21 => ?_)
    · exact absurd c21 (by decide)
    · first | refine zz_aload_n C dJ3_append_24 rfl ?_ | refine zz_aload_nN C dJ3_append_24 rfl ?_
      refine zz_get C rfl zz_us rfl in_J4 0 rfl q247 (fun _ h => h) (by first | rfl | assumption) dJ3_append_25 ?_
      first | refine zz_aload_n C dJ3_append_28 rfl ?_ | refine zz_aload_nN C dJ3_append_28 rfl ?_
      refine zz_dup C dJ3_append_29 rfl ?_
      refine zz_get C rfl zz_us rfl in_J4 3 rfl q250 (fun _ h => h) (by first | rfl | assumption) dJ3_append_30 ?_
      refine zz_dup_x1 C dJ3_append_33 rfl rfl ?_
      refine zz_iconst (v := 1) C dJ3_append_34 (by decide) ?_
      refine zz_iadd C dJ3_append_35 ?_
      refine zz_put C rfl zz_us rfl in_J4 tyJ4 tyJ4_ok nmJ4 3 rfl q250 (fun _ h => h) rfl (tyJ4_ok 3 (by decide)) (by first | rfl | exact zz_narZ (by first | exact zz_b01 _ | assumption | decide)) rfl (Nat.le_of_ble_eq_true rfl) dJ3_append_36 ?_
      refine zz_iload_n C dJ3_append_39 rfl ?_
      refine zz_i2b C dJ3_append_40 ?_
      refine zz_bast C (zz_lk3 hne (zz_lk3 hne zz_us)) rfl (by omega) (by omega) dJ3_append_41 ?_
      rw [sg_b q hq]
      refine zz_goto (tgt := 75) C dJ3_append_42 (by decide) ?_
      first | refine zz_aload_n C dJ3_append_75 rfl ?_ | refine zz_aload_nN C dJ3_append_75 rfl ?_
      refine zz_aret C (Or.inl ⟨_, rfl⟩) (Or.inr ⟨_, rfl⟩) dJ3_append_76 rfl rfl ?_
      exact ⟨va', cap', upd g' len (nI q), rfl, by rw [nI_1, zz_upup, zz_upswap (Ne.symm hne), zz_upup]; rfl, hR.1, hk', hR.2.1.elim Or.inl (fun e => hcc.elim Or.inl (fun e2 => Or.inr ⟨e2, e⟩)), fun i hi => (up_n (by omega)).trans (hR.2.2.1 i hi), up_s, hR.2.2.2.up len q hq⟩

theorem ct_J4_append {l : Launch} {D : va_G} {b0 : Nat} {h : zz_H} {B va cap len : Nat} {ml : Int32} {g : Nat → Int32} {v1 : Int32} {q : Nat} (hv1 : v1 = nI q) (hq : q < 128) (hcap : cap ≤ 200) (hlc : len ≤ cap) (hfb : sg_B g) (hB : h B = some (sg_F va ml len)) (hV : h va = some (sg_T D cap g))  : zz_Ct l D b0 yJ4_append cJ4_append 2 (some (.object "java/lang/StringBuilder")) 5 151 1 1000 [.ref B, .int v1] h (fun v h' => ∃ (va' cap' : Nat) (g' : Nat → Int32), v = some (.ref B) ∧ h' = zz_up (zz_up h va' (sg_T D cap' g')) B (sg_F va' ml (len + 1)) ∧ (va' = va ∨ (h va' = none ∧ b0 ≤ va')) ∧ len < cap' ∧ (cap' = cap ∨ (cap < len + 1 ∧ cap' = 2 * cap + 2)) ∧ (∀ i : Nat, i < len → g' i = g i) ∧ g' len = nI q ∧ sg_B g') := by
  refine zz_Ct.of zy_J4_append.1 rfl ?_
  intro p e s m below meth c C
  first | refine zz_aload_n C dJ4_append_0 rfl ?_ | refine zz_aload_nN C dJ4_append_0 rfl ?_
  refine zz_iload_n C dJ4_append_1 rfl ?_
  refine zz_callSU (Cn := "java/lang/StringBuilder") C zy_J3_append (ct_J3_append hv1 hq hcap hlc hfb hB hV) rfl q930 q1597 q259 q931 (by decide) (by first | assumption | exact zz_us | exact zz_lk1 (by assumption) (by assumption) | exact zz_lk3 (hd _ _ (by decide) (by decide) (by decide)) (by assumption) | exact zz_uf (by assumption) (by assumption) | exact zz_lk3 (zz_xi (by assumption) (by assumption)) (zz_lk1 (by assumption) (by assumption)) | exact zz_lk3 (hd _ _ (by decide) (by decide) (by decide)) (zz_lk3 (hd _ _ (by decide) (by decide) (by decide)) (by assumption)) | (simp only [zz_up]; simp_all; done)) rfl rfl rfl rfl rfl rfl dJ4_append_2 ⟨Nat.le_of_ble_eq_true rfl, Nat.le_of_ble_eq_true rfl⟩ (fun v hz hp => ?_)
  obtain ⟨va', cap', g', rfl, ez, hva, hlc', hcc, hgi, hgl, hgb⟩ := hp
  obtain rfl := ez.symm
  refine zz_pop C dJ4_append_5 rfl ?_
  first | refine zz_aload_n C dJ4_append_6 rfl ?_ | refine zz_aload_nN C dJ4_append_6 rfl ?_
  refine zz_aret C (Or.inl ⟨_, rfl⟩) (Or.inr ⟨_, rfl⟩) dJ4_append_7 rfl rfl ?_
  exact ⟨va', cap', g', rfl, rfl, hva, hlc', hcc, hgi, hgl, hgb⟩

theorem ct_J3_setLength {l : Launch} {D : va_G} {b0 : Nat} {h : zz_H} {B va cap len : Nat} {ml : Int32} {g : Nat → Int32} (hcap : cap ≤ 200) (hlc : len ≤ cap) (hfb : sg_B g) (hB : h B = some (sg_F va ml len)) (hV : h va = some (sg_T D cap g))  : zz_Ct l D b0 yJ3_setLength cJ3_setLength 2 (none) 4 130 1 1000 [.ref B, .int 0] h (fun v h' => ∃ (va' cap' : Nat) (g' : Nat → Int32) (ml' : Int32), v = none ∧ h' = zz_up (zz_up h va' (sg_T D cap' g')) B (sg_F va' ml' 0) ∧ (va' = va ∨ (h va' = none ∧ b0 ≤ va')) ∧ cap' = cap ∧ sg_B g') := by
  refine zz_Ct.of zy_J3_setLength rfl ?_
  intro p e s m below meth c C
  refine zz_iload_n C dJ3_setLength_0 rfl ?_
  refine zz_if_ge (tgt := 13) C dJ3_setLength_1 (by decide) (fun c1 => ?_) (fun c1 => ?_)
  · first | refine zz_aload_n C dJ3_setLength_13 rfl ?_ | refine zz_aload_nN C dJ3_setLength_13 rfl ?_
    refine zz_iload_n C dJ3_setLength_14 rfl ?_
    refine zz_callP (Cn := "java/lang/StringBuilder") (owner := "java/lang/AbstractStringBuilder") (x2 := yJ3_ensureCapacityInternal) C zy_J3_ensureCapacityInternal (ct_J3_ensureCapacityInternal 0 rfl (by omega) hcap hlc hfb hB hV) rfl q933 q1598 (by first | exact List.mem_cons_self | exact List.mem_cons_of_mem _ List.mem_cons_self) q935 rfl zy_J3_ensureCapacityInternal.1 (by first | assumption | exact zz_us | exact zz_lk1 (by assumption) (by assumption) | exact zz_lk3 (hd _ _ (by decide) (by decide) (by decide)) (by assumption) | exact zz_uf (by assumption) (by assumption) | exact zz_lk3 (zz_xi (by assumption) (by assumption)) (zz_lk1 (by assumption) (by assumption)) | exact zz_lk3 (hd _ _ (by decide) (by decide) (by decide)) (zz_lk3 (hd _ _ (by decide) (by decide) (by decide)) (by assumption)) | (simp only [zz_up]; simp_all; done)) rfl rfl rfl rfl rfl rfl dJ3_setLength_15 ⟨Nat.le_of_ble_eq_true rfl, Nat.le_of_ble_eq_true rfl⟩ (fun v hz hp => ?_)
    obtain ⟨va', cap', g', rfl, ez, hR, hk', hcc⟩ := hp
    obtain rfl := ez.symm
    have hcc : cap' = cap := hcc.resolve_right (by omega)
    first | refine zz_aload_n C dJ3_setLength_18 rfl ?_ | refine zz_aload_nN C dJ3_setLength_18 rfl ?_
    refine zz_get C rfl zz_us rfl in_J4 3 rfl q250 (fun _ h => h) (by first | rfl | assumption) dJ3_setLength_19 ?_
    refine zz_iload_n C dJ3_setLength_22 rfl ?_
    refine zz_icmp_ge (tgt := 63) C dJ3_setLength_23 (by decide) (fun c23 => ?_) (fun c23 => ?_)
    · first | refine zz_aload_n C dJ3_setLength_63 rfl ?_ | refine zz_aload_nN C dJ3_setLength_63 rfl ?_
      refine zz_get C rfl zz_us rfl in_J4 3 rfl q250 (fun _ h => h) (by first | rfl | assumption) dJ3_setLength_64 ?_
      refine zz_iload_n C dJ3_setLength_67 rfl ?_
      refine zz_icmp_le (tgt := 76) C dJ3_setLength_68 (by decide) (fun c68 => ?_) (fun c68 => ?_)
      · first | refine zz_aload_n C dJ3_setLength_76 rfl ?_ | refine zz_aload_nN C dJ3_setLength_76 rfl ?_
        refine zz_iload_n C dJ3_setLength_77 rfl ?_
        refine zz_put C rfl zz_us rfl in_J4 tyJ4 tyJ4_ok nmJ4 3 rfl q250 (fun _ h => h) rfl (tyJ4_ok 3 (by decide)) (by first | rfl | exact zz_narZ (by first | exact zz_b01 _ | assumption | decide)) rfl (Nat.le_of_ble_eq_true rfl) dJ3_setLength_78 ?_
        refine zz_vret C dJ3_setLength_81 rfl rfl ?_
        first | exact ⟨va', cap', g', ml, rfl, by rw [zz_upup]; rfl, hR.1, hcc, hR.2.2.2⟩ | exact ⟨va', cap', g', 1, rfl, by rw [zz_upup, zz_upup]; rfl, hR.1, hcc, hR.2.2.2⟩
      · first | refine zz_aload_n C dJ3_setLength_71 rfl ?_ | refine zz_aload_nN C dJ3_setLength_71 rfl ?_
        refine zz_iconst (v := 1) C dJ3_setLength_72 (by decide) ?_
        refine zz_put C rfl zz_us rfl in_J4 tyJ4 tyJ4_ok nmJ4 2 rfl q249 (fun _ h => h) rfl (tyJ4_ok 2 (by decide)) (by first | rfl | exact zz_narZ (by first | exact zz_b01 _ | assumption | decide)) (by first | exact zz_fitZ _ | rfl | exact zz_fit01 (by assumption)) (Nat.le_of_ble_eq_true rfl) dJ3_setLength_73 ?_
        first | refine zz_aload_n C dJ3_setLength_76 rfl ?_ | refine zz_aload_nN C dJ3_setLength_76 rfl ?_
        refine zz_iload_n C dJ3_setLength_77 rfl ?_
        refine zz_put C rfl zz_us rfl in_J4 tyJ4 tyJ4_ok nmJ4 3 rfl q250 (fun _ h => h) rfl (tyJ4_ok 3 (by decide)) (by first | rfl | exact zz_narZ (by first | exact zz_b01 _ | assumption | decide)) rfl (Nat.le_of_ble_eq_true rfl) dJ3_setLength_78 ?_
        refine zz_vret C dJ3_setLength_81 rfl rfl ?_
        first | exact ⟨va', cap', g', ml, rfl, by rw [zz_upup]; rfl, hR.1, hcc, hR.2.2.2⟩ | exact ⟨va', cap', g', 1, rfl, by rw [zz_upup, zz_upup]; rfl, hR.1, hcc, hR.2.2.2⟩
    · exact absurd (nI_pos' (by omega)) c23
  · exact absurd (by decide) c1

theorem ct_J4_setLength {l : Launch} {D : va_G} {b0 : Nat} {h : zz_H} {B va cap len : Nat} {ml : Int32} {g : Nat → Int32} (hcap : cap ≤ 200) (hlc : len ≤ cap) (hfb : sg_B g) (hB : h B = some (sg_F va ml len)) (hV : h va = some (sg_T D cap g))  : zz_Ct l D b0 yJ4_setLength cJ4_setLength 2 (none) 5 151 1 1000 [.ref B, .int 0] h (fun v h' => ∃ (va' cap' : Nat) (g' : Nat → Int32) (ml' : Int32), v = none ∧ h' = zz_up (zz_up h va' (sg_T D cap' g')) B (sg_F va' ml' 0) ∧ (va' = va ∨ (h va' = none ∧ b0 ≤ va')) ∧ cap' = cap ∧ sg_B g') := by
  refine zz_Ct.of zy_J4_setLength.1 rfl ?_
  intro p e s m below meth c C
  first | refine zz_aload_n C dJ4_setLength_0 rfl ?_ | refine zz_aload_nN C dJ4_setLength_0 rfl ?_
  refine zz_iload_n C dJ4_setLength_1 rfl ?_
  refine zz_callSU (Cn := "java/lang/StringBuilder") C zy_J3_setLength (ct_J3_setLength hcap hlc hfb hB hV) rfl q1010 q1601 q259 q1011 (by decide) (by first | assumption | exact zz_us | exact zz_lk1 (by assumption) (by assumption) | exact zz_lk3 (hd _ _ (by decide) (by decide) (by decide)) (by assumption) | exact zz_uf (by assumption) (by assumption) | exact zz_lk3 (zz_xi (by assumption) (by assumption)) (zz_lk1 (by assumption) (by assumption)) | exact zz_lk3 (hd _ _ (by decide) (by decide) (by decide)) (zz_lk3 (hd _ _ (by decide) (by decide) (by decide)) (by assumption)) | (simp only [zz_up]; simp_all; done)) rfl rfl rfl rfl rfl rfl dJ4_setLength_2 ⟨Nat.le_of_ble_eq_true rfl, Nat.le_of_ble_eq_true rfl⟩ (fun v hz hp => ?_)
  obtain ⟨va', cap', g', ml', rfl, ez, hva, hcc, hgb⟩ := hp
  obtain rfl := ez.symm
  refine zz_vret C dJ4_setLength_5 rfl rfl ?_
  exact ⟨va', cap', g', ml', rfl, rfl, hva, hcc, hgb⟩

theorem ct_J14_bitCount {l : Launch} {D : va_G} {b0 : Nat} {h : zz_H} {v0 : Int32} (f : Nat → Bool) (n : Nat) (hn : n ≤ 24) (hv0 : v0 = qa_or f n)  : zz_Ct l D b0 yJ14_bitCount cJ14_bitCount 1 (some .int) 0 0 0 0 [.int v0] h (fun v h' => v = some (.int (nI (qa_cnt f n))) ∧ h' = h) := by
  refine zz_Ct.of zy_J14_bitCount.1 rfl ?_
  intro p e s m below meth c C
  obtain rfl : v0 = nI (bc_x f n) := hv0.trans (bc_or f n hn)
  have hx0 : bc_x f n < 2 ^ 24 := Nat.lt_of_lt_of_le (bc_x_lt f n) (Nat.pow_le_pow_right (by decide) hn)
  have hs1 : bc_x f n >>> 1 ≤ bc_x f n := by rw [Nat.shiftRight_eq_div_pow]; exact Nat.div_le_self _ _
  have hb1 : bc_1 (bc_x f n) ≤ bc_x f n := Nat.sub_le _ _
  have hs2 : bc_1 (bc_x f n) >>> 2 ≤ bc_1 (bc_x f n) := by rw [Nat.shiftRight_eq_div_pow]; exact Nat.div_le_self _ _
  have hb2 : bc_2 (bc_1 (bc_x f n)) ≤ 2 * bc_1 (bc_x f n) := by
    have g1 : bc_1 (bc_x f n) &&& 858993459 ≤ bc_1 (bc_x f n) := Nat.and_le_left
    have g2 : (bc_1 (bc_x f n) >>> 2) &&& 858993459 ≤ bc_1 (bc_x f n) := Nat.le_trans Nat.and_le_left hs2
    unfold bc_2
    omega
  have hs3 : bc_2 (bc_1 (bc_x f n)) >>> 4 ≤ bc_2 (bc_1 (bc_x f n)) := by rw [Nat.shiftRight_eq_div_pow]; exact Nat.div_le_self _ _
  have hb3 : bc_3 (bc_2 (bc_1 (bc_x f n))) ≤ 2 * bc_2 (bc_1 (bc_x f n)) := by
    refine Nat.le_trans Nat.and_le_left ?_
    omega
  have hs4 : bc_3 (bc_2 (bc_1 (bc_x f n))) >>> 8 ≤ bc_3 (bc_2 (bc_1 (bc_x f n))) := by rw [Nat.shiftRight_eq_div_pow]; exact Nat.div_le_self _ _
  have hb4 : bc_4 (bc_3 (bc_2 (bc_1 (bc_x f n)))) ≤ 2 * bc_3 (bc_2 (bc_1 (bc_x f n))) := by
    unfold bc_4
    omega
  have hs5 : bc_4 (bc_3 (bc_2 (bc_1 (bc_x f n)))) >>> 16 ≤ bc_4 (bc_3 (bc_2 (bc_1 (bc_x f n)))) := by rw [Nat.shiftRight_eq_div_pow]; exact Nat.div_le_self _ _
  have hb5 : bc_5 (bc_4 (bc_3 (bc_2 (bc_1 (bc_x f n))))) ≤ 2 * bc_4 (bc_3 (bc_2 (bc_1 (bc_x f n)))) := by
    unfold bc_5
    omega
  refine zz_iload_n C dJ14_bitCount_0 rfl ?_
  refine zz_iload_n C dJ14_bitCount_1 rfl ?_
  refine zz_iconst (v := nI 1) C dJ14_bitCount_2 (by decide) ?_
  refine zz_iushr C dJ14_bitCount_3 ?_
  refine zz_ldcw C rfl q655 dJ14_bitCount_4 ?_
  refine zz_iand C dJ14_bitCount_7 ?_
  refine zz_isub C dJ14_bitCount_8 ?_
  rw [show (1431655765 : Int32) = nI 1431655765 from rfl, nI_ns (by omega) (by omega), nI_na (Nat.lt_of_le_of_lt hs1 (by omega)) (by omega), pk_sub (Nat.le_trans Nat.and_le_left hs1)]
  rw [show bc_x f n - ((bc_x f n >>> 1) &&& 1431655765) = bc_1 (bc_x f n) from rfl]
  refine zz_istore_n C dJ14_bitCount_9 (by decide) ?_
  refine zz_iload_n C dJ14_bitCount_10 rfl ?_
  refine zz_ldcw C rfl q656 dJ14_bitCount_11 ?_
  refine zz_iand C dJ14_bitCount_14 ?_
  refine zz_iload_n C dJ14_bitCount_15 rfl ?_
  refine zz_iconst (v := nI 2) C dJ14_bitCount_16 (by decide) ?_
  refine zz_iushr C dJ14_bitCount_17 ?_
  refine zz_ldcw C rfl q656 dJ14_bitCount_18 ?_
  refine zz_iand C dJ14_bitCount_21 ?_
  refine zz_iadd C dJ14_bitCount_22 ?_
  rw [show (858993459 : Int32) = nI 858993459 from rfl, nI_ns (by omega) (by omega), nI_na (by omega) (by omega), nI_na (Nat.lt_of_le_of_lt hs2 (by omega)) (by omega), nI_add]
  rw [show (bc_1 (bc_x f n) &&& 858993459) + ((bc_1 (bc_x f n) >>> 2) &&& 858993459) = bc_2 (bc_1 (bc_x f n)) from rfl]
  refine zz_istore_n C dJ14_bitCount_23 (by decide) ?_
  refine zz_iload_n C dJ14_bitCount_24 rfl ?_
  refine zz_iload_n C dJ14_bitCount_25 rfl ?_
  refine zz_iconst (v := nI 4) C dJ14_bitCount_26 (by decide) ?_
  refine zz_iushr C dJ14_bitCount_27 ?_
  refine zz_iadd C dJ14_bitCount_28 ?_
  refine zz_ldcw C rfl q657 dJ14_bitCount_29 ?_
  refine zz_iand C dJ14_bitCount_32 ?_
  rw [show (252645135 : Int32) = nI 252645135 from rfl, nI_ns (by omega) (by omega), nI_add, nI_na (by omega) (by omega)]
  rw [show (bc_2 (bc_1 (bc_x f n)) + bc_2 (bc_1 (bc_x f n)) >>> 4) &&& 252645135 = bc_3 (bc_2 (bc_1 (bc_x f n))) from rfl]
  refine zz_istore_n C dJ14_bitCount_33 (by decide) ?_
  refine zz_iload_n C dJ14_bitCount_34 rfl ?_
  refine zz_iload_n C dJ14_bitCount_35 rfl ?_
  refine zz_bipush (v := nI 8) C dJ14_bitCount_36 (by decide) ?_
  refine zz_iushr C dJ14_bitCount_38 ?_
  refine zz_iadd C dJ14_bitCount_39 ?_
  rw [nI_ns (by omega) (by omega), nI_add]
  rw [show bc_3 (bc_2 (bc_1 (bc_x f n))) + bc_3 (bc_2 (bc_1 (bc_x f n))) >>> 8 = bc_4 (bc_3 (bc_2 (bc_1 (bc_x f n)))) from rfl]
  refine zz_istore_n C dJ14_bitCount_40 (by decide) ?_
  refine zz_iload_n C dJ14_bitCount_41 rfl ?_
  refine zz_iload_n C dJ14_bitCount_42 rfl ?_
  refine zz_bipush (v := nI 16) C dJ14_bitCount_43 (by decide) ?_
  refine zz_iushr C dJ14_bitCount_45 ?_
  refine zz_iadd C dJ14_bitCount_46 ?_
  rw [nI_ns (by omega) (by omega), nI_add]
  rw [show bc_4 (bc_3 (bc_2 (bc_1 (bc_x f n)))) + bc_4 (bc_3 (bc_2 (bc_1 (bc_x f n)))) >>> 16 = bc_5 (bc_4 (bc_3 (bc_2 (bc_1 (bc_x f n))))) from rfl]
  refine zz_istore_n C dJ14_bitCount_47 (by decide) ?_
  refine zz_iload_n C dJ14_bitCount_48 rfl ?_
  refine zz_bipush (v := 63) C dJ14_bitCount_49 (by decide) ?_
  refine zz_iand C dJ14_bitCount_51 ?_
  refine zz_iret C dJ14_bitCount_52 rfl rfl ?_
  refine ⟨?_, rfl⟩
  rw [pk_andN (by omega) (m := 63) 6 (by decide), show (2 : Nat) ^ 6 = 64 from rfl, bc_N f n hn]

theorem fs_self {x : UInt32} (op : CmpOp) (hx : ∃ c q, FP.Core.decode FP.Core.b32 x.toNat = .fin false c q ∧ (-149) ≤ q) : Op.cmpValue (FP.fcmp x x) op = 0 := by
  have h1 := (fs_ge op hx hx).mpr (Nat.le_refl _)
  have h2 := (fs_le op hx hx).mpr (Nat.le_refl _)
  exact Int32.le_antisymm h2 h1
theorem fd_self {x : UInt64} (op : CmpOp) (hx : ∃ c q, FP.Core.decode FP.Core.b64 x.toNat = .fin false c q ∧ (-1074) ≤ q) : Op.cmpValue (FP.dcmp x x) op = 0 := by
  have h1 := (fd_ge op hx hx).mpr (Nat.le_refl _)
  have h2 := (fd_le op hx hx).mpr (Nat.le_refl _)
  exact Int32.le_antisymm h2 h1
theorem ct_J15_isNaN {l : Launch} {D : va_G} {b0 : Nat} {h : zz_H} {v0 : UInt32} (hv : Op.cmpValue (FP.fcmp v0 v0) .l = 0)  : zz_Ct l D b0 yJ15_isNaN cJ15_isNaN 1 (some .boolean) 0 0 0 0 [.float v0] h (fun v h' => v = some (.int (0)) ∧ h' = h) := by
  refine zz_Ct.of zy_J15_isNaN.1 rfl ?_
  intro p e s m below meth c C
  refine zz_fload_n C dJ15_isNaN_0 rfl ?_
  refine zz_fload_n C dJ15_isNaN_1 rfl ?_
  refine zz_fcmp C dJ15_isNaN_2 ?_
  refine zz_if_eq (tgt := 10) C dJ15_isNaN_3 (by decide) (fun c3 => ?_) (fun c3 => ?_)
  · refine zz_iconst (v := 0) C dJ15_isNaN_10 (by decide) ?_
    refine zz_zret0 C (zz_narZ (by first | exact zz_b01 _ | decide | assumption)) dJ15_isNaN_11 rfl rfl ?_
    exact ⟨rfl, rfl⟩
  · exact absurd hv c3

theorem ct_J15_floatToIntBits {l : Launch} {D : va_G} {b0 : Nat} {h : zz_H} {v0 : UInt32} (hv : Op.cmpValue (FP.fcmp v0 v0) .l = 0)  : zz_Ct l D b0 yJ15_floatToIntBits cJ15_floatToIntBits 1 (some .int) 1 60 0 0 [.float v0] h (fun v h' => v = some (.int (v0.toInt32)) ∧ h' = h) := by
  refine zz_Ct.of zy_J15_floatToIntBits.1 rfl ?_
  intro p e s m below meth c C
  refine zz_fload_n C dJ15_floatToIntBits_0 rfl ?_
  refine zz_callS C zy_J15_isNaN (ct_J15_isNaN hv) rfl q842 rfl rfl rfl rfl rfl dJ15_floatToIntBits_1 ⟨Nat.le_of_ble_eq_true rfl, Nat.le_of_ble_eq_true rfl⟩ (fun v hz hp => ?_)
  obtain ⟨rfl, ez⟩ := hp
  obtain rfl := ez.symm
  refine zz_if_ne (tgt := 12) C dJ15_floatToIntBits_4 (by decide) (fun c4 => ?_) (fun c4 => ?_)
  · exact absurd rfl c4
  · refine zz_fload_n C dJ15_floatToIntBits_7 rfl ?_
    refine zz_f2r C rfl q845 dJ15_floatToIntBits_8 rfl rfl rfl ?_
    refine zz_iret C dJ15_floatToIntBits_11 rfl rfl ?_
    exact ⟨rfl, rfl⟩

theorem ct_J16_isNaN {l : Launch} {D : va_G} {b0 : Nat} {h : zz_H} {v0 : UInt64} (hv : Op.cmpValue (FP.dcmp v0 v0) .l = 0)  : zz_Ct l D b0 yJ16_isNaN cJ16_isNaN 2 (some .boolean) 0 0 0 0 [.double v0] h (fun v h' => v = some (.int (0)) ∧ h' = h) := by
  refine zz_Ct.of zy_J16_isNaN.1 rfl ?_
  intro p e s m below meth c C
  refine zz_dload_n C dJ16_isNaN_0 rfl ?_
  refine zz_dload_n C dJ16_isNaN_1 rfl ?_
  refine zz_dcmp C dJ16_isNaN_2 ?_
  refine zz_if_eq (tgt := 10) C dJ16_isNaN_3 (by decide) (fun c3 => ?_) (fun c3 => ?_)
  · refine zz_iconst (v := 0) C dJ16_isNaN_10 (by decide) ?_
    refine zz_zret0 C (zz_narZ (by first | exact zz_b01 _ | decide | assumption)) dJ16_isNaN_11 rfl rfl ?_
    exact ⟨rfl, rfl⟩
  · exact absurd hv c3

theorem ct_J16_doubleToLongBits {l : Launch} {D : va_G} {b0 : Nat} {h : zz_H} {v0 : UInt64} (hv : Op.cmpValue (FP.dcmp v0 v0) .l = 0)  : zz_Ct l D b0 yJ16_doubleToLongBits cJ16_doubleToLongBits 2 (some .long) 1 60 0 0 [.double v0] h (fun v h' => v = some (.long v0.toInt64) ∧ h' = h) := by
  refine zz_Ct.of zy_J16_doubleToLongBits.1 rfl ?_
  intro p e s m below meth c C
  refine zz_dload_n C dJ16_doubleToLongBits_0 rfl ?_
  refine zz_callS C zy_J16_isNaN (ct_J16_isNaN hv) rfl q877 rfl rfl rfl rfl rfl dJ16_doubleToLongBits_1 ⟨Nat.le_of_ble_eq_true rfl, Nat.le_of_ble_eq_true rfl⟩ (fun v hz hp => ?_)
  obtain ⟨rfl, ez⟩ := hp
  obtain rfl := ez.symm
  refine zz_if_ne (tgt := 12) C dJ16_doubleToLongBits_4 (by decide) (fun c4 => ?_) (fun c4 => ?_)
  · exact absurd rfl c4
  · refine zz_dload_n C dJ16_doubleToLongBits_7 rfl ?_
    refine zz_d2r C rfl q880 dJ16_doubleToLongBits_8 rfl rfl rfl ?_
    refine zz_lret C dJ16_doubleToLongBits_11 rfl rfl ?_
    exact ⟨rfl, rfl⟩

/-- the letters of the constant text -/
def sc_l : Nat → Int32 := fun k => match k with | 0 => 113 | 1 => 99 | 2 => 111 | 3 => 103 | 4 => 108 | 5 => 110 | _ => 100
theorem sc_fS : ∀ k : Nat, zz_fS k = .int (sc_l k)
  | 0 => rfl
  | 1 => rfl
  | 2 => rfl
  | 3 => rfl
  | 4 => rfl
  | 5 => rfl
  | _ + 6 => rfl
theorem sc_no {c : Int32} (h : ∀ j : Nat, j < 7 → sc_l j ≠ c) : tp_let c = false := by
  have h0 := h 0 (by decide)
  have h1 := h 1 (by decide)
  have h2 := h 2 (by decide)
  have h3 := h 3 (by decide)
  have h4 := h 4 (by decide)
  have h5 := h 5 (by decide)
  have h6 := h 6 (by decide)
  simp only [sc_l] at h0 h1 h2 h3 h4 h5 h6
  simp [tp_let, Ne.symm h0, Ne.symm h1, Ne.symm h2, Ne.symm h3, Ne.symm h4, Ne.symm h5, Ne.symm h6]
theorem sc_yes {j : Nat} (hj : j < 7) : tp_let (sc_l j) = true := (show ∀ j : Nat, j < 7 → tp_let (sc_l j) = true from by decide) j hj
theorem sc_b : ∀ q : Nat, q < 128 → (nI q).toInt8.toInt32 = nI q := by decide +kernel
theorem ct_J17_canEncode_2 {l : Launch} {D : va_G} {b0 : Nat} {h : zz_H} {v0 : Int32} {q : Nat} (hv0 : v0 = nI q) (hq : q < 128)  : zz_Ct l D b0 yJ17_canEncode_2 cJ17_canEncode_2 1 (some .boolean) 0 0 0 0 [.int v0] h (fun v h' => v = some (.int (1)) ∧ h' = h) := by
  refine zz_Ct.of zy_J17_canEncode_2.1 rfl ?_
  intro p e s m below meth c C
  refine zz_iload_n C dJ17_canEncode_2_0 rfl ?_
  refine zz_if_lt (tgt := 15) C dJ17_canEncode_2_1 (by decide) (fun c1 => ?_) (fun c1 => ?_)
  · exact absurd c1 (by rw [hv0]; exact nI_pos (by omega))
  · refine zz_iload_n C dJ17_canEncode_2_4 rfl ?_
    refine zz_sipush (v := 255) C dJ17_canEncode_2_5 (by decide) ?_
    refine zz_icmp_gt (tgt := 15) C dJ17_canEncode_2_8 (by decide) (fun c8 => ?_) (fun c8 => ?_)
    · exact absurd c8 (by rw [hv0]; exact nI_nlt (a := 255) (by omega) (by omega))
    · refine zz_iconst (v := 1) C dJ17_canEncode_2_11 (by decide) ?_
      refine zz_goto (tgt := 16) C dJ17_canEncode_2_12 (by decide) ?_
      refine zz_zret0 C (zz_narZ (by first | exact zz_b01 _ | decide | assumption)) dJ17_canEncode_2_16 rfl rfl ?_
      exact ⟨rfl, rfl⟩

theorem ct_J17_indexOfChar {l : Launch} {D : va_G} {b0 : Nat} {h : zz_H} {v0 : Int32} {q : Nat} (hv0 : v0 = nI q) (hq : q < 128)  : zz_Ct l D b0 yJ17_indexOfChar cJ17_indexOfChar 6 (some .int) 0 0 0 0 [.ref (D.2 1000 5), .int v0, .int 0, .int 7] h (fun v h' => ∃ z : Int32, v = some (.int z) ∧ (if tp_let v0 = true then 0 ≤ z else z < 0) ∧ h' = h) := by
  refine zz_Ct.of zy_J17_indexOfChar.1 rfl ?_
  intro p e s m below meth c C
  refine zz_iload_n C dJ17_indexOfChar_0 rfl ?_
  refine zz_i2b C dJ17_indexOfChar_1 ?_
  rw [hv0, sc_b q hq, ← hv0]
  refine zz_istore C dJ17_indexOfChar_2 (by decide) ?_
  refine zz_iload_n C dJ17_indexOfChar_4 rfl ?_
  refine zz_istore C dJ17_indexOfChar_5 (by decide) ?_
  have L7 : ∀ (n : Nat) (i : Nat), i ≤ 7 → 8 ≤ i + n → (∀ j : Nat, j < i → sc_l j ≠ v0) → zz_V D b0 6 p l e ({ frames := 0, cells := 0, slots := 0, locals := 0 } : Jvm.Room) s m ([.ref (D.2 1000 5), .int v0, .int 0, .int 7] : List Value).toArray below meth c (MQ below (zz_Q D b0 (fun v h' => ∃ z : Int32, v = some (.int z) ∧ (if tp_let v0 = true then 0 ≤ z else z < 0) ∧ h' = h)) ([.ref (D.2 1000 5), .int v0, .int 0, .int 7] : List Value).toArray s 0 0 (fun q => b0 ≤ q)) 0 0 h [(0, .ref (D.2 1000 5)), (1, .int v0), (3, .int 7), (4, .int v0), (5, .int (nI i))] 7 [] := by
    intro n
    induction n with
    | zero =>
      intro i h1 h2 hno
      exact absurd h2 (by omega)
    | succ n ih =>
      intro i h1 h2 hno
      refine zz_iload C dJ17_indexOfChar_7 rfl ?_
      refine zz_iload_n C dJ17_indexOfChar_9 rfl ?_
      refine zz_icmp_ge (tgt := 31) C dJ17_indexOfChar_10 (by decide) (fun c10 => ?_) (fun c10 => ?_)
      · have hi2 : 7 ≤ i := (nI_leI (a := 7) (by omega) (by omega)).mp c10
        obtain rfl : i = 7 := by omega
        refine zz_iconst (v := (-1)) C dJ17_indexOfChar_31 (by decide) ?_
        refine zz_iret C dJ17_indexOfChar_32 rfl rfl ?_
        exact ⟨-1, rfl, by rw [sc_no hno]; decide, rfl⟩
      · have hi2 : i < 7 := Nat.not_le.mp (fun q => c10 (nI_le (a := 7) q (by omega)))
        first | refine zz_aload_n C dJ17_indexOfChar_13 rfl ?_ | refine zz_aload_nN C dJ17_indexOfChar_13 rfl ?_
        refine zz_iload C dJ17_indexOfChar_14 rfl ?_
        refine zz_tb C (zz_sTb C) rfl (by omega) (by omega) (sc_fS _) dJ17_indexOfChar_16 ?_
        refine zz_iload C dJ17_indexOfChar_17 rfl ?_
        refine zz_icmp_ne (tgt := 25) C dJ17_indexOfChar_19 (by decide) (fun c19 => ?_) (fun c19 => ?_)
        · refine zz_iinc C dJ17_indexOfChar_25 rfl (by first | exact nI_1 _ | exact (rfl : _ + Int32.ofInt 1 = _ + 1)) (by decide) ?_
          refine zz_goto (tgt := 7) C dJ17_indexOfChar_28 (by decide) ?_
          exact zz_loc2 (ih (i + 1) (by omega) (by omega) (fun j hj => by
            by_cases e : j = i
            · rw [e]; exact c19
            · exact hno j (by omega))) ⟨rfl, rfl, rfl, rfl, rfl, trivial⟩
        · refine zz_iload C dJ17_indexOfChar_22 rfl ?_
          refine zz_iret C dJ17_indexOfChar_24 rfl rfl ?_
          exact ⟨nI i, rfl, by rw [← c19, if_pos (sc_yes hi2)]; exact nI_pos' (by omega), rfl⟩
  exact zz_loc2 (L7 8 0 (by omega) (by omega) (fun j hj => by omega)) ⟨rfl, rfl, rfl, rfl, rfl, trivial⟩

theorem ct_J17_indexOf {l : Launch} {D : va_G} {b0 : Nat} {h : zz_H} {v0 : Int32} {q : Nat} (hv0 : v0 = nI q) (hq : q < 128)  : zz_Ct l D b0 yJ17_indexOf cJ17_indexOf 4 (some .int) 1 60 0 0 [.ref (D.2 1000 5), .int v0, .int 0, .int 7] h (fun v h' => ∃ z : Int32, v = some (.int z) ∧ (if tp_let v0 = true then 0 ≤ z else z < 0) ∧ h' = h) := by
  refine zz_Ct.of zy_J17_indexOf.1 rfl ?_
  intro p e s m below meth c C
  refine zz_iload_n C dJ17_indexOf_0 rfl ?_
  refine zz_callS C zy_J17_canEncode_2 (ct_J17_canEncode_2 hv0 hq) rfl q1084 rfl rfl rfl rfl rfl dJ17_indexOf_1 ⟨Nat.le_of_ble_eq_true rfl, Nat.le_of_ble_eq_true rfl⟩ (fun v hz hp => ?_)
  obtain ⟨rfl, ez⟩ := hp
  obtain rfl := ez.symm
  refine zz_if_ne (tgt := 9) C dJ17_indexOf_4 (by decide) (fun c4 => ?_) (fun c4 => ?_)
  · refine zz_iload_n C dJ17_indexOf_9 rfl ?_
    refine zz_iconst (v := 0) C dJ17_indexOf_10 (by decide) ?_
    refine zz_mmax C rfl q1087 dJ17_indexOf_11 rfl rfl rfl (by show (_ : Nat) ≤ 0; omega) (by show (_ : Nat) ≤ 0; omega) ?_
    refine zz_istore_n C dJ17_indexOf_14 (by decide) ?_
    refine zz_iload_n C dJ17_indexOf_15 rfl ?_
    first | refine zz_aload_n C dJ17_indexOf_16 rfl ?_ | refine zz_aload_nN C dJ17_indexOf_16 rfl ?_
    refine zz_tlen C (zz_sTb C) dJ17_indexOf_17 ?_
    refine zz_mmin C rfl q1088 dJ17_indexOf_18 rfl rfl rfl (by show (_ : Nat) ≤ 0; omega) (by show (_ : Nat) ≤ 0; omega) ?_
    refine zz_istore_n C dJ17_indexOf_21 (by decide) ?_
    refine zz_iload_n C dJ17_indexOf_22 rfl ?_
    refine zz_iload_n C dJ17_indexOf_23 rfl ?_
    refine zz_icmp_lt (tgt := 29) C dJ17_indexOf_24 (by decide) (fun c24 => ?_) (fun c24 => ?_)
    · first | refine zz_aload_n C dJ17_indexOf_29 rfl ?_ | refine zz_aload_nN C dJ17_indexOf_29 rfl ?_
      refine zz_iload_n C dJ17_indexOf_30 rfl ?_
      refine zz_iload_n C dJ17_indexOf_31 rfl ?_
      refine zz_iload_n C dJ17_indexOf_32 rfl ?_
      refine zz_callS C zy_J17_indexOfChar (ct_J17_indexOfChar hv0 hq) rfl q1089 rfl rfl rfl rfl rfl dJ17_indexOf_33 ⟨Nat.le_of_ble_eq_true rfl, Nat.le_of_ble_eq_true rfl⟩ (fun v hz hp => ?_)
      obtain ⟨z, rfl, hz0, ez⟩ := hp
      obtain rfl := ez.symm
      refine zz_iret C dJ17_indexOf_36 rfl rfl ?_
      exact ⟨z, rfl, hz0, rfl⟩
    · exact absurd (by decide) c24
  · exact absurd c4 (by decide)

theorem ct_J5_isLatin1 {l : Launch} {D : va_G} {b0 : Nat} {h : zz_H}  : zz_Ct l D b0 yJ5_isLatin1 cJ5_isLatin1 1 (some .boolean) 0 0 0 0 [.ref (D.2 1000 4)] h (fun v h' => v = some (.int (1)) ∧ h' = h) := by
  refine zz_Ct.of zy_J5_isLatin1.1 rfl ?_
  intro p e s m below meth c C
  refine zz_gets C rfl (zz_sCOMPACT_STRINGS C) q1072 (fun _ h => h) dJ5_isLatin1_0 ?_
  refine zz_if_eq (tgt := 17) C dJ5_isLatin1_3 (by decide) (fun c3 => ?_) (fun c3 => ?_)
  · exact absurd c3 (by decide)
  · first | refine zz_aload_n C dJ5_isLatin1_6 rfl ?_ | refine zz_aload_nN C dJ5_isLatin1_6 rfl ?_
    refine zz_getO C rfl (zz_sCo C) q1623 (fun _ h => h) dJ5_isLatin1_7 ?_
    refine zz_if_ne (tgt := 17) C dJ5_isLatin1_10 (by decide) (fun c10 => ?_) (fun c10 => ?_)
    · exact absurd rfl c10
    · refine zz_iconst (v := 1) C dJ5_isLatin1_13 (by decide) ?_
      refine zz_goto (tgt := 18) C dJ5_isLatin1_14 (by decide) ?_
      refine zz_zret0 C (zz_narZ (by first | exact zz_b01 _ | decide | assumption)) dJ5_isLatin1_18 rfl rfl ?_
      exact ⟨rfl, rfl⟩

theorem ct_J5_coder {l : Launch} {D : va_G} {b0 : Nat} {h : zz_H}  : zz_Ct l D b0 yJ5_coder cJ5_coder 1 (some .byte) 0 0 0 0 [.ref (D.2 1000 4)] h (fun v h' => v = some (.int (0)) ∧ h' = h) := by
  refine zz_Ct.of zy_J5_coder.1 rfl ?_
  intro p e s m below meth c C
  refine zz_gets C rfl (zz_sCOMPACT_STRINGS C) q1072 (fun _ h => h) dJ5_coder_0 ?_
  refine zz_if_eq (tgt := 13) C dJ5_coder_3 (by decide) (fun c3 => ?_) (fun c3 => ?_)
  · exact absurd c3 (by decide)
  · first | refine zz_aload_n C dJ5_coder_6 rfl ?_ | refine zz_aload_nN C dJ5_coder_6 rfl ?_
    refine zz_getO C rfl (zz_sCo C) q1623 (fun _ h => h) dJ5_coder_7 ?_
    refine zz_goto (tgt := 14) C dJ5_coder_10 (by decide) ?_
    refine zz_zret0 C (by decide) dJ5_coder_14 rfl rfl ?_
    exact ⟨rfl, rfl⟩

theorem ct_J5_length {l : Launch} {D : va_G} {b0 : Nat} {h : zz_H}  : zz_Ct l D b0 yJ5_length cJ5_length 1 (some .int) 1 20 0 0 [.ref (D.2 1000 4)] h (fun v h' => v = some (.int (7)) ∧ h' = h) := by
  refine zz_Ct.of zy_J5_length.1 rfl ?_
  intro p e s m below meth c C
  first | refine zz_aload_n C dJ5_length_0 rfl ?_ | refine zz_aload_nN C dJ5_length_0 rfl ?_
  refine zz_getO C rfl (zz_sVa C) q1624 (fun _ h => h) dJ5_length_1 ?_
  refine zz_tlen C (zz_sTb C) dJ5_length_4 ?_
  first | refine zz_aload_n C dJ5_length_5 rfl ?_ | refine zz_aload_nN C dJ5_length_5 rfl ?_
  refine zz_callT C zy_J5_coder rfl (ct_J5_coder) rfl q1077 rfl rfl rfl rfl rfl dJ5_length_6 ⟨Nat.le_of_ble_eq_true rfl, Nat.le_of_ble_eq_true rfl⟩ (fun v hz hp => ?_)
  obtain ⟨rfl, ez⟩ := hp
  obtain rfl := ez.symm
  refine zz_ishr C dJ5_length_9 ?_
  refine zz_iret C dJ5_length_10 rfl rfl ?_
  exact ⟨by decide, rfl⟩

theorem ct_J5_indexOf_2 {l : Launch} {D : va_G} {b0 : Nat} {h : zz_H} {v0 : Int32} {q : Nat} (hv0 : v0 = nI q) (hq : q < 128)  : zz_Ct l D b0 yJ5_indexOf_2 cJ5_indexOf_2 3 (some .int) 2 83 0 0 [.ref (D.2 1000 4), .int v0, .int 0] h (fun v h' => ∃ z : Int32, v = some (.int z) ∧ (if tp_let v0 = true then 0 ≤ z else z < 0) ∧ h' = h) := by
  refine zz_Ct.of zy_J5_indexOf_2.1 rfl ?_
  intro p e s m below meth c C
  first | refine zz_aload_n C dJ5_indexOf_2_0 rfl ?_ | refine zz_aload_nN C dJ5_indexOf_2_0 rfl ?_
  refine zz_callT C zy_J5_isLatin1 rfl (ct_J5_isLatin1) rfl q1068 rfl rfl rfl rfl rfl dJ5_indexOf_2_1 ⟨Nat.le_of_ble_eq_true rfl, Nat.le_of_ble_eq_true rfl⟩ (fun v hz hp => ?_)
  obtain ⟨rfl, ez⟩ := hp
  obtain rfl := ez.symm
  refine zz_if_eq (tgt := 23) C dJ5_indexOf_2_4 (by decide) (fun c4 => ?_) (fun c4 => ?_)
  · exact absurd c4 (by decide)
  · first | refine zz_aload_n C dJ5_indexOf_2_7 rfl ?_ | refine zz_aload_nN C dJ5_indexOf_2_7 rfl ?_
    refine zz_getO C rfl (zz_sVa C) q1624 (fun _ h => h) dJ5_indexOf_2_8 ?_
    refine zz_iload_n C dJ5_indexOf_2_11 rfl ?_
    refine zz_iload_n C dJ5_indexOf_2_12 rfl ?_
    first | refine zz_aload_n C dJ5_indexOf_2_13 rfl ?_ | refine zz_aload_nN C dJ5_indexOf_2_13 rfl ?_
    refine zz_callT C zy_J5_length rfl (ct_J5_length) rfl q1073 rfl rfl rfl rfl rfl dJ5_indexOf_2_14 ⟨Nat.le_of_ble_eq_true rfl, Nat.le_of_ble_eq_true rfl⟩ (fun v hz hp => ?_)
    obtain ⟨rfl, ez⟩ := hp
    obtain rfl := ez.symm
    refine zz_callS C zy_J17_indexOf (ct_J17_indexOf hv0 hq) rfl q1081 rfl rfl rfl rfl rfl dJ5_indexOf_2_17 ⟨Nat.le_of_ble_eq_true rfl, Nat.le_of_ble_eq_true rfl⟩ (fun v hz hp => ?_)
    obtain ⟨z, rfl, hz0, ez⟩ := hp
    obtain rfl := ez.symm
    refine zz_goto (tgt := 36) C dJ5_indexOf_2_20 (by decide) ?_
    refine zz_iret C dJ5_indexOf_2_36 rfl rfl ?_
    exact ⟨z, rfl, hz0, rfl⟩

theorem ct_J5_indexOf {l : Launch} {D : va_G} {b0 : Nat} {h : zz_H} {v0 : Int32} {q : Nat} (hv0 : v0 = nI q) (hq : q < 128)  : zz_Ct l D b0 yJ5_indexOf cJ5_indexOf 2 (some .int) 3 105 0 0 [.ref (D.2 1000 4), .int v0] h (fun v h' => ∃ z : Int32, v = some (.int z) ∧ (if tp_let v0 = true then 0 ≤ z else z < 0) ∧ h' = h) := by
  refine zz_Ct.of zy_J5_indexOf.1 rfl ?_
  intro p e s m below meth c C
  first | refine zz_aload_n C dJ5_indexOf_0 rfl ?_ | refine zz_aload_nN C dJ5_indexOf_0 rfl ?_
  refine zz_iload_n C dJ5_indexOf_1 rfl ?_
  refine zz_iconst (v := 0) C dJ5_indexOf_2 (by decide) ?_
  refine zz_callT C zy_J5_indexOf_2 rfl (ct_J5_indexOf_2 hv0 hq) rfl q1064 rfl rfl rfl rfl rfl dJ5_indexOf_3 ⟨Nat.le_of_ble_eq_true rfl, Nat.le_of_ble_eq_true rfl⟩ (fun v hz hp => ?_)
  obtain ⟨z, rfl, hz0, ez⟩ := hp
  obtain rfl := ez.symm
  refine zz_iret C dJ5_indexOf_6 rfl rfl ?_
  exact ⟨z, rfl, hz0, rfl⟩

