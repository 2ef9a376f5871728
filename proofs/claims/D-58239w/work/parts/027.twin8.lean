/-! the twin: how it reads its pad -/
theorem ct_X2_isNext {l : Launch} {D : va_G} {b0 : Nat} {h : zz_H} {x : Nat} {ad : Nat → Nat} {a ah hi : Nat → Int32} {kp : Nat} {sl sv pd : Nat → Int32} {len : Nat} {so to : Nat → Int32} {pos : Nat} {wr : Bool} (hlen : len ≤ 80) (hpos : pos ≤ len) {v0 v1 : Int32} (hX : tw_X D h x ad a ah hi kp sl sv pd len so (nI pos) (zz_b wr) to)  : zz_Ct l D b0 yX2_isNext cX2_isNext 3 (some .boolean) 1 22 0 0 [.ref x, .int v0, .int v1] h (fun v h' => v = some (.int (zz_b (tp_next pd len v0 v1 (pos, wr)))) ∧ h' = h) := by
  refine zz_Ct.of zy_X2_isNext.1 rfl ?_
  intro p e s m below meth c C
  have hM := hX.M
  obtain ⟨hx, h0, h1a, h2a, h3a, h4a, h5a, h6, h7, hd⟩ := id hX
  first | refine zz_aload_n C dX2_isNext_0 rfl ?_ | refine zz_aload_nN C dX2_isNext_0 rfl ?_
  refine zz_get C rfl (by first | assumption | exact zz_us | exact zz_lk1 (by assumption) (by assumption) | exact zz_lk3 (hd _ _ (by decide) (by decide) (by decide)) (by assumption) | exact zz_uf (by assumption) (by assumption) | exact zz_lk3 (zz_xi (by assumption) (by assumption)) (zz_lk1 (by assumption) (by assumption)) | exact zz_lk3 (hd _ _ (by decide) (by decide) (by decide)) (zz_lk3 (hd _ _ (by decide) (by decide) (by decide)) (by assumption)) | (simp only [zz_up]; simp_all; done)) rfl in_X2 10 rfl q1240 (fun _ h => h) (by first | rfl | assumption) dX2_isNext_1 ?_
  first | refine zz_ifb_ne (tgt := 39) C dX2_isNext_4 (by decide) (fun c4 => ?_) (fun c4 => ?_) | refine zz_if_ne (tgt := 39) C dX2_isNext_4 (by decide) (fun c4 => ?_) (fun c4 => ?_)
  · refine zz_iconst (v := 0) C dX2_isNext_39 (by decide) ?_
    refine zz_zret0 C (zz_narZ (by first | exact zz_b01 _ | decide | assumption)) dX2_isNext_40 rfl rfl ?_
    exact ⟨by first | (simp_all [zz_b, tp_next, -Int32.not_le, -Int32.not_lt, -Nat.not_lt]; done), rfl⟩
  · first | refine zz_aload_n C dX2_isNext_7 rfl ?_ | refine zz_aload_nN C dX2_isNext_7 rfl ?_
    refine zz_get C rfl (by first | assumption | exact zz_us | exact zz_lk1 (by assumption) (by assumption) | exact zz_lk3 (hd _ _ (by decide) (by decide) (by decide)) (by assumption) | exact zz_uf (by assumption) (by assumption) | exact zz_lk3 (zz_xi (by assumption) (by assumption)) (zz_lk1 (by assumption) (by assumption)) | exact zz_lk3 (hd _ _ (by decide) (by decide) (by decide)) (zz_lk3 (hd _ _ (by decide) (by decide) (by decide)) (by assumption)) | (simp only [zz_up]; simp_all; done)) rfl in_X2 9 rfl q1239 (fun _ h => h) (by first | rfl | assumption) dX2_isNext_8 ?_
    first | refine zz_aload_n C dX2_isNext_11 rfl ?_ | refine zz_aload_nN C dX2_isNext_11 rfl ?_
    refine zz_get C rfl (by first | assumption | exact zz_us | exact zz_lk1 (by assumption) (by assumption) | exact zz_lk3 (hd _ _ (by decide) (by decide) (by decide)) (by assumption) | exact zz_uf (by assumption) (by assumption) | exact zz_lk3 (zz_xi (by assumption) (by assumption)) (zz_lk1 (by assumption) (by assumption)) | exact zz_lk3 (hd _ _ (by decide) (by decide) (by decide)) (zz_lk3 (hd _ _ (by decide) (by decide) (by decide)) (by assumption)) | (simp only [zz_up]; simp_all; done)) rfl in_X2 7 rfl q1237 (fun _ h => h) (by first | rfl | assumption) dX2_isNext_12 ?_
    refine zz_icmp_ge (tgt := 39) C dX2_isNext_15 (by decide) (fun c15 => ?_) (fun c15 => ?_)
    · have hpl : ¬ pos < len := by
        have := (nI_leI (by omega) (by omega)).mp c15
        omega
      refine zz_iconst (v := 0) C dX2_isNext_39 (by decide) ?_
      refine zz_zret0 C (zz_narZ (by first | exact zz_b01 _ | decide | assumption)) dX2_isNext_40 rfl rfl ?_
      exact ⟨by first | (simp_all [zz_b, tp_next, -Int32.not_le, -Int32.not_lt, -Nat.not_lt]; done), rfl⟩
    · have hpl : pos < len := Nat.not_le.mp (fun q => c15 (nI_le q (by omega)))
      first | refine zz_aload_n C dX2_isNext_18 rfl ?_ | refine zz_aload_nN C dX2_isNext_18 rfl ?_
      refine zz_get C rfl (by first | assumption | exact zz_us | exact zz_lk1 (by assumption) (by assumption) | exact zz_lk3 (hd _ _ (by decide) (by decide) (by decide)) (by assumption) | exact zz_uf (by assumption) (by assumption) | exact zz_lk3 (zz_xi (by assumption) (by assumption)) (zz_lk1 (by assumption) (by assumption)) | exact zz_lk3 (hd _ _ (by decide) (by decide) (by decide)) (zz_lk3 (hd _ _ (by decide) (by decide) (by decide)) (by assumption)) | (simp only [zz_up]; simp_all; done)) rfl in_X2 6 rfl q1236 (fun _ h => h) (by first | rfl | assumption) dX2_isNext_19 ?_
      first | refine zz_aload_n C dX2_isNext_22 rfl ?_ | refine zz_aload_nN C dX2_isNext_22 rfl ?_
      refine zz_get C rfl (by first | assumption | exact zz_us | exact zz_lk1 (by assumption) (by assumption) | exact zz_lk3 (hd _ _ (by decide) (by decide) (by decide)) (by assumption) | exact zz_uf (by assumption) (by assumption) | exact zz_lk3 (zz_xi (by assumption) (by assumption)) (zz_lk1 (by assumption) (by assumption)) | exact zz_lk3 (hd _ _ (by decide) (by decide) (by decide)) (zz_lk3 (hd _ _ (by decide) (by decide) (by decide)) (by assumption)) | (simp only [zz_up]; simp_all; done)) rfl in_X2 9 rfl q1239 (fun _ h => h) (by first | rfl | assumption) dX2_isNext_23 ?_
      refine zz_iald C (by first | assumption | exact zz_us | exact zz_lk1 (by assumption) (by assumption) | exact zz_lk3 (hd _ _ (by decide) (by decide) (by decide)) (by assumption) | exact zz_uf (by assumption) (by assumption) | exact zz_lk3 (zz_xi (by assumption) (by assumption)) (zz_lk1 (by assumption) (by assumption)) | exact zz_lk3 (hd _ _ (by decide) (by decide) (by decide)) (zz_lk3 (hd _ _ (by decide) (by decide) (by decide)) (by assumption)) | (simp only [zz_up]; simp_all; done)) rfl (by omega) (by omega) dX2_isNext_26 ?_
      refine zz_iload_n C dX2_isNext_27 rfl ?_
      refine zz_iload_n C dX2_isNext_28 rfl ?_
      refine zz_callS C zy_X2_in (ct_X2_in) rfl q1272 rfl rfl rfl rfl rfl dX2_isNext_29 ⟨Nat.le_of_ble_eq_true rfl, Nat.le_of_ble_eq_true rfl⟩ (fun v hz hp => ?_)
      obtain ⟨rfl, ez⟩ := hp
      obtain rfl := ez.symm
      first | refine zz_ifb_eq (tgt := 39) C dX2_isNext_32 (by decide) (fun c32 => ?_) (fun c32 => ?_) | refine zz_if_eq (tgt := 39) C dX2_isNext_32 (by decide) (fun c32 => ?_) (fun c32 => ?_)
      · refine zz_iconst (v := 0) C dX2_isNext_39 (by decide) ?_
        refine zz_zret0 C (zz_narZ (by first | exact zz_b01 _ | decide | assumption)) dX2_isNext_40 rfl rfl ?_
        exact ⟨by first | (simp_all [zz_b, tp_next, -Int32.not_le, -Int32.not_lt, -Nat.not_lt]; done), rfl⟩
      · refine zz_iconst (v := 1) C dX2_isNext_35 (by decide) ?_
        refine zz_goto (tgt := 40) C dX2_isNext_36 (by decide) ?_
        refine zz_zret0 C (zz_narZ (by first | exact zz_b01 _ | decide | assumption)) dX2_isNext_40 rfl rfl ?_
        exact ⟨by first | (simp_all [zz_b, tp_next, -Int32.not_le, -Int32.not_lt, -Nat.not_lt]; done), rfl⟩

theorem ct_X2_takes {l : Launch} {D : va_G} {b0 : Nat} {h : zz_H} {x : Nat} {ad : Nat → Nat} {a ah hi : Nat → Int32} {kp : Nat} {sl sv pd : Nat → Int32} {len : Nat} {so to : Nat → Int32} {pos : Nat} {wr : Bool} (hlen : len ≤ 80) (hpos : pos ≤ len) {v0 v1 : Int32} (hX : tw_X D h x ad a ah hi kp sl sv pd len so (nI pos) (zz_b wr) to)  : zz_Ct l D b0 yX2_takes cX2_takes 4 (some .int) 1 22 0 0 [.ref x, .int v0, .int v1] h (fun v h' => v = some (.int (tp_cur pd len pos - v0)) ∧ tw_X D h' x ad a ah hi kp sl sv pd len so (nI (tp_take pd len v0 v1 (pos, wr)).1) (zz_b (tp_take pd len v0 v1 (pos, wr)).2) to ∧ tw_F x ad h h') := by
  refine zz_Ct.of zy_X2_takes.1 rfl ?_
  intro p e s m below meth c C
  have hM := hX.M
  obtain ⟨hx, h0, h1a, h2a, h3a, h4a, h5a, h6, h7, hd⟩ := id hX
  refine zz_joinI (pcJ := 24) (tp_cur pd len pos) ?_ ?_
  · rintro z24 rfl
    refine zz_istore_n C dX2_takes_24 (by decide) ?_
    first | refine zz_aload_n C dX2_takes_25 rfl ?_ | refine zz_aload_nN C dX2_takes_25 rfl ?_
    refine zz_joinI (pcJ := 47) (zz_b (wr || !qa_in (tp_cur pd len pos) v0 v1)) ?_ ?_
    · rintro z47 rfl
      refine zz_put C rfl (by first | assumption | exact zz_us | exact zz_lk1 (by assumption) (by assumption) | exact zz_lk3 (hd _ _ (by decide) (by decide) (by decide)) (by assumption) | exact zz_uf (by assumption) (by assumption) | exact zz_lk3 (zz_xi (by assumption) (by assumption)) (zz_lk1 (by assumption) (by assumption)) | exact zz_lk3 (hd _ _ (by decide) (by decide) (by decide)) (zz_lk3 (hd _ _ (by decide) (by decide) (by decide)) (by assumption)) | (simp only [zz_up]; simp_all; done)) rfl in_X2 tyX2 tyX2_ok nmX2 10 rfl q1240 (fun _ h => h) rfl (tyX2_ok 10 (by decide)) (zz_narZ (zz_b01 _)) (by first | exact zz_fitZ _ | rfl | exact zz_fit01 (by assumption)) (Nat.le_of_ble_eq_true rfl) dX2_takes_47 ?_
      first | refine zz_aload_n C dX2_takes_50 rfl ?_ | refine zz_aload_nN C dX2_takes_50 rfl ?_
      refine zz_dup C dX2_takes_51 rfl ?_
      refine zz_get C rfl (by first | assumption | exact zz_us | exact zz_lk1 (by assumption) (by assumption) | exact zz_lk3 (hd _ _ (by decide) (by decide) (by decide)) (by assumption) | exact zz_uf (by assumption) (by assumption) | exact zz_lk3 (zz_xi (by assumption) (by assumption)) (zz_lk1 (by assumption) (by assumption)) | exact zz_lk3 (hd _ _ (by decide) (by decide) (by decide)) (zz_lk3 (hd _ _ (by decide) (by decide) (by decide)) (by assumption)) | (simp only [zz_up]; simp_all; done)) rfl in_X2 9 rfl q1239 (fun _ h => h) (by first | rfl | assumption) dX2_takes_52 ?_
      first | refine zz_aload_n C dX2_takes_55 rfl ?_ | refine zz_aload_nN C dX2_takes_55 rfl ?_
      refine zz_get C rfl (by first | assumption | exact zz_us | exact zz_lk1 (by assumption) (by assumption) | exact zz_lk3 (hd _ _ (by decide) (by decide) (by decide)) (by assumption) | exact zz_uf (by assumption) (by assumption) | exact zz_lk3 (zz_xi (by assumption) (by assumption)) (zz_lk1 (by assumption) (by assumption)) | exact zz_lk3 (hd _ _ (by decide) (by decide) (by decide)) (zz_lk3 (hd _ _ (by decide) (by decide) (by decide)) (by assumption)) | (simp only [zz_up]; simp_all; done)) rfl in_X2 10 rfl q1240 (fun _ h => h) (by first | rfl | assumption) dX2_takes_56 ?_
      first | refine zz_ifb_eq (tgt := 66) C dX2_takes_59 (by decide) (fun c59 => ?_) (fun c59 => ?_) | refine zz_if_eq (tgt := 66) C dX2_takes_59 (by decide) (fun c59 => ?_) (fun c59 => ?_)
      · have et : tp_take pd len v0 v1 (pos, wr) = (pos + 1, false) := if_neg (by rw [show ((pos, wr).2 || !qa_in (tp_cur pd len (pos, wr).1) v0 v1) = false from c59]; decide)
        refine zz_iconst (v := 1) C dX2_takes_66 (by decide) ?_
        refine zz_iadd C dX2_takes_67 ?_
        refine zz_put C rfl (by first | assumption | exact zz_us | exact zz_lk1 (by assumption) (by assumption) | exact zz_lk3 (hd _ _ (by decide) (by decide) (by decide)) (by assumption) | exact zz_uf (by assumption) (by assumption) | exact zz_lk3 (zz_xi (by assumption) (by assumption)) (zz_lk1 (by assumption) (by assumption)) | exact zz_lk3 (hd _ _ (by decide) (by decide) (by decide)) (zz_lk3 (hd _ _ (by decide) (by decide) (by decide)) (by assumption)) | (simp only [zz_up]; simp_all; done)) rfl in_X2 tyX2 tyX2_ok nmX2 9 rfl q1239 (fun _ h => h) rfl (tyX2_ok 9 (by decide)) (by first | rfl | exact zz_narZ (by first | exact zz_b01 _ | assumption | decide)) rfl (Nat.le_of_ble_eq_true rfl) dX2_takes_68 ?_
        refine zz_iload_n C dX2_takes_71 rfl ?_
        refine zz_iload_n C dX2_takes_72 rfl ?_
        refine zz_isub C dX2_takes_73 ?_
        refine zz_iret C dX2_takes_74 rfl rfl ?_
        first
        | (refine ⟨rfl, ?_, tw_F.ux.tr tw_F.ux⟩
           rw [et, zz_upup]
           have hX3 := hX.fx kp len (nI (pos + 1)) (zz_b false)
           rw [← nI_1] at hX3
           rw [show (wr || !qa_in (tp_cur pd len pos) v0 v1) = false from c59]
           rw [nI_1] at hX3 ⊢
           exact hX3)
        | (refine ⟨rfl, ?_, tw_F.ux.tr tw_F.ux⟩
           rw [et, zz_upup]
           have hX3 := hX.fx kp len (nI pos) (zz_b true)
           rw [show (wr || !qa_in (tp_cur pd len pos) v0 v1) = true from c59, show nI pos + 0 = nI pos from by rw [Int32.add_zero]]
           exact hX3)
      · have et : tp_take pd len v0 v1 (pos, wr) = (pos, true) := if_pos c59
        refine zz_iconst (v := 0) C dX2_takes_62 (by decide) ?_
        refine zz_goto (tgt := 67) C dX2_takes_63 (by decide) ?_
        refine zz_iadd C dX2_takes_67 ?_
        refine zz_put C rfl (by first | assumption | exact zz_us | exact zz_lk1 (by assumption) (by assumption) | exact zz_lk3 (hd _ _ (by decide) (by decide) (by decide)) (by assumption) | exact zz_uf (by assumption) (by assumption) | exact zz_lk3 (zz_xi (by assumption) (by assumption)) (zz_lk1 (by assumption) (by assumption)) | exact zz_lk3 (hd _ _ (by decide) (by decide) (by decide)) (zz_lk3 (hd _ _ (by decide) (by decide) (by decide)) (by assumption)) | (simp only [zz_up]; simp_all; done)) rfl in_X2 tyX2 tyX2_ok nmX2 9 rfl q1239 (fun _ h => h) rfl (tyX2_ok 9 (by decide)) (by first | rfl | exact zz_narZ (by first | exact zz_b01 _ | assumption | decide)) rfl (Nat.le_of_ble_eq_true rfl) dX2_takes_68 ?_
        refine zz_iload_n C dX2_takes_71 rfl ?_
        refine zz_iload_n C dX2_takes_72 rfl ?_
        refine zz_isub C dX2_takes_73 ?_
        refine zz_iret C dX2_takes_74 rfl rfl ?_
        first
        | (refine ⟨rfl, ?_, tw_F.ux.tr tw_F.ux⟩
           rw [et, zz_upup]
           have hX3 := hX.fx kp len (nI (pos + 1)) (zz_b false)
           rw [← nI_1] at hX3
           rw [show (wr || !qa_in (tp_cur pd len pos) v0 v1) = false from c59]
           rw [nI_1] at hX3 ⊢
           exact hX3)
        | (refine ⟨rfl, ?_, tw_F.ux.tr tw_F.ux⟩
           rw [et, zz_upup]
           have hX3 := hX.fx kp len (nI pos) (zz_b true)
           rw [show (wr || !qa_in (tp_cur pd len pos) v0 v1) = true from c59, show nI pos + 0 = nI pos from by rw [Int32.add_zero]]
           exact hX3)
    · intro J47
      first | refine zz_aload_n C dX2_takes_26 rfl ?_ | refine zz_aload_nN C dX2_takes_26 rfl ?_
      refine zz_get C rfl (by first | assumption | exact zz_us | exact zz_lk1 (by assumption) (by assumption) | exact zz_lk3 (hd _ _ (by decide) (by decide) (by decide)) (by assumption) | exact zz_uf (by assumption) (by assumption) | exact zz_lk3 (zz_xi (by assumption) (by assumption)) (zz_lk1 (by assumption) (by assumption)) | exact zz_lk3 (hd _ _ (by decide) (by decide) (by decide)) (zz_lk3 (hd _ _ (by decide) (by decide) (by decide)) (by assumption)) | (simp only [zz_up]; simp_all; done)) rfl in_X2 10 rfl q1240 (fun _ h => h) (by first | rfl | assumption) dX2_takes_27 ?_
      first | refine zz_ifb_ne (tgt := 42) C dX2_takes_30 (by decide) (fun c30 => ?_) (fun c30 => ?_) | refine zz_if_ne (tgt := 42) C dX2_takes_30 (by decide) (fun c30 => ?_) (fun c30 => ?_)
      · refine zz_iconst (v := 1) C dX2_takes_42 (by decide) ?_
        refine zz_goto (tgt := 47) C dX2_takes_43 (by decide) ?_
        exact J47 _ (by first | (simp_all [zz_b]; done))
      · refine zz_iload_n C dX2_takes_33 rfl ?_
        refine zz_iload_n C dX2_takes_34 rfl ?_
        refine zz_iload_n C dX2_takes_35 rfl ?_
        refine zz_callS C zy_X2_in (ct_X2_in) rfl q1272 rfl rfl rfl rfl rfl dX2_takes_36 ⟨Nat.le_of_ble_eq_true rfl, Nat.le_of_ble_eq_true rfl⟩ (fun v hz hp => ?_)
        obtain ⟨rfl, ez⟩ := hp
        obtain rfl := ez.symm
        first | refine zz_ifb_ne (tgt := 46) C dX2_takes_39 (by decide) (fun c39 => ?_) (fun c39 => ?_) | refine zz_if_ne (tgt := 46) C dX2_takes_39 (by decide) (fun c39 => ?_) (fun c39 => ?_)
        · refine zz_iconst (v := 0) C dX2_takes_46 (by decide) ?_
          exact J47 _ (by first | (simp_all [zz_b]; done))
        · refine zz_iconst (v := 1) C dX2_takes_42 (by decide) ?_
          refine zz_goto (tgt := 47) C dX2_takes_43 (by decide) ?_
          exact J47 _ (by first | (simp_all [zz_b]; done))
  · intro J24
    first | refine zz_aload_n C dX2_takes_0 rfl ?_ | refine zz_aload_nN C dX2_takes_0 rfl ?_
    refine zz_get C rfl (by first | assumption | exact zz_us | exact zz_lk1 (by assumption) (by assumption) | exact zz_lk3 (hd _ _ (by decide) (by decide) (by decide)) (by assumption) | exact zz_uf (by assumption) (by assumption) | exact zz_lk3 (zz_xi (by assumption) (by assumption)) (zz_lk1 (by assumption) (by assumption)) | exact zz_lk3 (hd _ _ (by decide) (by decide) (by decide)) (zz_lk3 (hd _ _ (by decide) (by decide) (by decide)) (by assumption)) | (simp only [zz_up]; simp_all; done)) rfl in_X2 9 rfl q1239 (fun _ h => h) (by first | rfl | assumption) dX2_takes_1 ?_
    first | refine zz_aload_n C dX2_takes_4 rfl ?_ | refine zz_aload_nN C dX2_takes_4 rfl ?_
    refine zz_get C rfl (by first | assumption | exact zz_us | exact zz_lk1 (by assumption) (by assumption) | exact zz_lk3 (hd _ _ (by decide) (by decide) (by decide)) (by assumption) | exact zz_uf (by assumption) (by assumption) | exact zz_lk3 (zz_xi (by assumption) (by assumption)) (zz_lk1 (by assumption) (by assumption)) | exact zz_lk3 (hd _ _ (by decide) (by decide) (by decide)) (zz_lk3 (hd _ _ (by decide) (by decide) (by decide)) (by assumption)) | (simp only [zz_up]; simp_all; done)) rfl in_X2 7 rfl q1237 (fun _ h => h) (by first | rfl | assumption) dX2_takes_5 ?_
    refine zz_icmp_ge (tgt := 23) C dX2_takes_8 (by decide) (fun c8 => ?_) (fun c8 => ?_)
    · have hpl : ¬ pos < len := by
        have := (nI_leI (by omega) (by omega)).mp c8
        omega
      refine zz_iconst (v := 0) C dX2_takes_23 (by decide) ?_
      exact J24 _ (by first | exact (if_pos ‹_›).symm | exact (if_neg ‹_›).symm)
    · have hpl : pos < len := Nat.not_le.mp (fun q => c8 (nI_le q (by omega)))
      first | refine zz_aload_n C dX2_takes_11 rfl ?_ | refine zz_aload_nN C dX2_takes_11 rfl ?_
      refine zz_get C rfl (by first | assumption | exact zz_us | exact zz_lk1 (by assumption) (by assumption) | exact zz_lk3 (hd _ _ (by decide) (by decide) (by decide)) (by assumption) | exact zz_uf (by assumption) (by assumption) | exact zz_lk3 (zz_xi (by assumption) (by assumption)) (zz_lk1 (by assumption) (by assumption)) | exact zz_lk3 (hd _ _ (by decide) (by decide) (by decide)) (zz_lk3 (hd _ _ (by decide) (by decide) (by decide)) (by assumption)) | (simp only [zz_up]; simp_all; done)) rfl in_X2 6 rfl q1236 (fun _ h => h) (by first | rfl | assumption) dX2_takes_12 ?_
      first | refine zz_aload_n C dX2_takes_15 rfl ?_ | refine zz_aload_nN C dX2_takes_15 rfl ?_
      refine zz_get C rfl (by first | assumption | exact zz_us | exact zz_lk1 (by assumption) (by assumption) | exact zz_lk3 (hd _ _ (by decide) (by decide) (by decide)) (by assumption) | exact zz_uf (by assumption) (by assumption) | exact zz_lk3 (zz_xi (by assumption) (by assumption)) (zz_lk1 (by assumption) (by assumption)) | exact zz_lk3 (hd _ _ (by decide) (by decide) (by decide)) (zz_lk3 (hd _ _ (by decide) (by decide) (by decide)) (by assumption)) | (simp only [zz_up]; simp_all; done)) rfl in_X2 9 rfl q1239 (fun _ h => h) (by first | rfl | assumption) dX2_takes_16 ?_
      refine zz_iald C (by first | assumption | exact zz_us | exact zz_lk1 (by assumption) (by assumption) | exact zz_lk3 (hd _ _ (by decide) (by decide) (by decide)) (by assumption) | exact zz_uf (by assumption) (by assumption) | exact zz_lk3 (zz_xi (by assumption) (by assumption)) (zz_lk1 (by assumption) (by assumption)) | exact zz_lk3 (hd _ _ (by decide) (by decide) (by decide)) (zz_lk3 (hd _ _ (by decide) (by decide) (by decide)) (by assumption)) | (simp only [zz_up]; simp_all; done)) rfl (by omega) (by omega) dX2_takes_19 ?_
      refine zz_goto (tgt := 24) C dX2_takes_20 (by decide) ?_
      exact J24 _ (by first | exact (if_pos ‹_›).symm | exact (if_neg ‹_›).symm)

theorem ct_X2_takesNumber {l : Launch} {D : va_G} {b0 : Nat} {h : zz_H} {x : Nat} {ad : Nat → Nat} {a ah hi : Nat → Int32} {kp : Nat} {sl sv pd : Nat → Int32} {len : Nat} {so to : Nat → Int32} {pos : Nat} {wr : Bool} (hlen : len ≤ 80) (hpos : pos ≤ len) (hX : tw_X D h x ad a ah hi kp sl sv pd len so (nI pos) (zz_b wr) to)  : zz_Ct l D b0 yX2_takesNumber cX2_takesNumber 3 (some .int) 2 45 0 0 [.ref x] h (fun v h' => v = some (.int (tp_num pd len (pos, wr)).1) ∧ tw_X D h' x ad a ah hi kp sl sv pd len so (nI (tp_num pd len (pos, wr)).2.1) (zz_b (tp_num pd len (pos, wr)).2.2) to ∧ tw_F x ad h h') := by
  refine zz_Ct.of zy_X2_takesNumber.1 rfl ?_
  intro p e s m below meth c C
  have hM := hX.M
  obtain ⟨hx, h0, h1a, h2a, h3a, h4a, h5a, h6, h7, hd⟩ := id hX
  first | refine zz_aload_n C dX2_takesNumber_0 rfl ?_ | refine zz_aload_nN C dX2_takesNumber_0 rfl ?_
  refine zz_bipush (v := 48) C dX2_takesNumber_1 (by decide) ?_
  refine zz_bipush (v := 57) C dX2_takesNumber_3 (by decide) ?_
  refine zz_callV C zy_X2_takes (ct_X2_takes hlen (by omega) hX) rfl q1567 (by first | assumption | exact zz_us | exact zz_lk1 (by assumption) (by assumption) | exact zz_lk3 (hd _ _ (by decide) (by decide) (by decide)) (by assumption) | exact zz_uf (by assumption) (by assumption) | exact zz_lk3 (zz_xi (by assumption) (by assumption)) (zz_lk1 (by assumption) (by assumption)) | exact zz_lk3 (hd _ _ (by decide) (by decide) (by decide)) (zz_lk3 (hd _ _ (by decide) (by decide) (by decide)) (by assumption)) | (simp only [zz_up]; simp_all; done)) rfl rfl rfl rfl rfl rfl dX2_takesNumber_5 ⟨Nat.le_of_ble_eq_true rfl, Nat.le_of_ble_eq_true rfl⟩ (fun v hz hp => ?_)
  obtain ⟨rfl, hX1, hF1⟩ := hp
  clear hx h0 h1a h2a h3a h4a h5a h6 h7
  obtain ⟨hx, h0, h1a, h2a, h3a, h4a, h5a, h6, h7, -⟩ := id hX1
  refine zz_istore_n C dX2_takesNumber_8 (by decide) ?_
  refine zz_iconst (v := 0) C dX2_takesNumber_9 (by decide) ?_
  refine zz_istore_n C dX2_takesNumber_10 (by decide) ?_
  have L11 : ∀ (n : Nat) (i : Nat) (v : Int32) (q : Nat × Bool) (hz : zz_H), i ≤ 2 → 3 ≤ i + n → q.1 ≤ len → tp_numL pd len (2 - i) v q = tp_num pd len (pos, wr) → tw_X D hz x ad a ah hi kp sl sv pd len so (nI q.1) (zz_b q.2) to → tw_F x ad h hz → zz_V D b0 3 p l e ({ frames := 2, cells := 0, slots := 0, locals := 45 } : Jvm.Room) s m ([.ref x] : List Value).toArray below meth c (MQ below (zz_Q D b0 (fun v h' => v = some (.int (tp_num pd len (pos, wr)).1) ∧ tw_X D h' x ad a ah hi kp sl sv pd len so (nI (tp_num pd len (pos, wr)).2.1) (zz_b (tp_num pd len (pos, wr)).2.2) to ∧ tw_F x ad h h')) ([.ref x] : List Value).toArray s 0 0 (fun q => b0 ≤ q)) 0 0 hz [(0, .ref x), (1, .int v), (2, .int (nI i))] 11 [] := by
    intro n
    induction n with
    | zero =>
      intro i v q hz h1 h2 hq hE hXq hFq
      exact absurd h2 (by omega)
    | succ n ih =>
      intro i v q hz h1 h2 hq hE hXq hFq
      clear hx h0 h1a h2a h3a h4a h5a h6 h7
      obtain ⟨hx, h0, h1a, h2a, h3a, h4a, h5a, h6, h7, -⟩ := id hXq
      refine zz_iload_n C dX2_takesNumber_11 rfl ?_
      refine zz_iconst (v := 2) C dX2_takesNumber_12 (by decide) ?_
      refine zz_icmp_ge (tgt := 51) C dX2_takesNumber_13 (by decide) (fun c13 => ?_) (fun c13 => ?_)
      · have hi2 : 2 ≤ i := (nI_leI (a := 2) (by omega) (by omega)).mp c13
        obtain rfl : i = 2 := by omega
        refine zz_iload_n C dX2_takesNumber_51 rfl ?_
        refine zz_iret C dX2_takesNumber_52 rfl rfl ?_
        have eN : tp_num pd len (pos, wr) = (v, q) := by
          rw [← hE]
          first
          | rfl
          | (rw [show 2 - i = (2 - (i + 1)) + 1 by omega]; exact if_neg (fun qq => absurd ‹v ≤ 0› qq.1))
          | (rw [show 2 - i = (2 - (i + 1)) + 1 by omega]; exact if_neg (fun qq => absurd qq.2 (by rw [show tp_next pd len 48 57 q = false from c28]; decide)))
        rw [eN]
        exact ⟨rfl, hXq, hFq⟩
      · have hi2 : i < 2 := Nat.not_le.mp (fun q => c13 (nI_le (a := 2) q (by omega)))
        refine zz_iload_n C dX2_takesNumber_16 rfl ?_
        refine zz_if_le (tgt := 51) C dX2_takesNumber_17 (by decide) (fun c17 => ?_) (fun c17 => ?_)
        · refine zz_iload_n C dX2_takesNumber_51 rfl ?_
          refine zz_iret C dX2_takesNumber_52 rfl rfl ?_
          have eN : tp_num pd len (pos, wr) = (v, q) := by
            rw [← hE]
            first
            | rfl
            | (rw [show 2 - i = (2 - (i + 1)) + 1 by omega]; exact if_neg (fun qq => absurd ‹v ≤ 0› qq.1))
            | (rw [show 2 - i = (2 - (i + 1)) + 1 by omega]; exact if_neg (fun qq => absurd qq.2 (by rw [show tp_next pd len 48 57 q = false from c28]; decide)))
          rw [eN]
          exact ⟨rfl, hXq, hFq⟩
        · first | refine zz_aload_n C dX2_takesNumber_20 rfl ?_ | refine zz_aload_nN C dX2_takesNumber_20 rfl ?_
          refine zz_bipush (v := 48) C dX2_takesNumber_21 (by decide) ?_
          refine zz_bipush (v := 57) C dX2_takesNumber_23 (by decide) ?_
          refine zz_callV C zy_X2_isNext (ct_X2_isNext hlen hq hXq) rfl q1563 (by first | assumption | exact zz_us | exact zz_lk1 (by assumption) (by assumption) | exact zz_lk3 (hd _ _ (by decide) (by decide) (by decide)) (by assumption) | exact zz_uf (by assumption) (by assumption) | exact zz_lk3 (zz_xi (by assumption) (by assumption)) (zz_lk1 (by assumption) (by assumption)) | exact zz_lk3 (hd _ _ (by decide) (by decide) (by decide)) (zz_lk3 (hd _ _ (by decide) (by decide) (by decide)) (by assumption)) | (simp only [zz_up]; simp_all; done)) rfl rfl rfl rfl rfl rfl dX2_takesNumber_25 ⟨Nat.le_of_ble_eq_true rfl, Nat.le_of_ble_eq_true rfl⟩ (fun v hz hp => ?_)
          obtain ⟨rfl, ez⟩ := hp
          obtain rfl := ez.symm
          first | refine zz_ifb_eq (tgt := 51) C dX2_takesNumber_28 (by decide) (fun c28 => ?_) (fun c28 => ?_) | refine zz_if_eq (tgt := 51) C dX2_takesNumber_28 (by decide) (fun c28 => ?_) (fun c28 => ?_)
          · refine zz_iload_n C dX2_takesNumber_51 rfl ?_
            refine zz_iret C dX2_takesNumber_52 rfl rfl ?_
            have eN : tp_num pd len (pos, wr) = (v, q) := by
              rw [← hE]
              first
              | rfl
              | (rw [show 2 - i = (2 - (i + 1)) + 1 by omega]; exact if_neg (fun qq => absurd ‹v ≤ 0› qq.1))
              | (rw [show 2 - i = (2 - (i + 1)) + 1 by omega]; exact if_neg (fun qq => absurd qq.2 (by rw [show tp_next pd len 48 57 q = false from c28]; decide)))
            rw [eN]
            exact ⟨rfl, hXq, hFq⟩
          · refine zz_bipush (v := 10) C dX2_takesNumber_31 (by decide) ?_
            refine zz_iload_n C dX2_takesNumber_33 rfl ?_
            refine zz_imul C dX2_takesNumber_34 ?_
            first | refine zz_aload_n C dX2_takesNumber_35 rfl ?_ | refine zz_aload_nN C dX2_takesNumber_35 rfl ?_
            refine zz_bipush (v := 48) C dX2_takesNumber_36 (by decide) ?_
            refine zz_bipush (v := 57) C dX2_takesNumber_38 (by decide) ?_
            refine zz_callV C zy_X2_takes (ct_X2_takes hlen hq hXq) rfl q1567 (by first | assumption | exact zz_us | exact zz_lk1 (by assumption) (by assumption) | exact zz_lk3 (hd _ _ (by decide) (by decide) (by decide)) (by assumption) | exact zz_uf (by assumption) (by assumption) | exact zz_lk3 (zz_xi (by assumption) (by assumption)) (zz_lk1 (by assumption) (by assumption)) | exact zz_lk3 (hd _ _ (by decide) (by decide) (by decide)) (zz_lk3 (hd _ _ (by decide) (by decide) (by decide)) (by assumption)) | (simp only [zz_up]; simp_all; done)) rfl rfl rfl rfl rfl rfl dX2_takesNumber_40 ⟨Nat.le_of_ble_eq_true rfl, Nat.le_of_ble_eq_true rfl⟩ (fun v hz hp => ?_)
            obtain ⟨rfl, hX2, hF2⟩ := hp
            refine zz_iadd C dX2_takesNumber_43 ?_
            refine zz_istore_n C dX2_takesNumber_44 (by decide) ?_
            refine zz_iinc C dX2_takesNumber_45 rfl (by first | exact nI_1 _ | exact (rfl : _ + Int32.ofInt 1 = _ + 1)) (by decide) ?_
            refine zz_goto (tgt := 11) C dX2_takesNumber_48 (by decide) ?_
            exact zz_loc2 (ih (i + 1) _ _ _ (by omega) (by omega) (tp_take_le hq (by decide)) (by
              rw [← hE, show 2 - i = (2 - (i + 1)) + 1 by omega]
              exact (if_pos ⟨c17, c28⟩).symm) hX2 (hFq.tr hF2)) ⟨rfl, rfl, rfl, trivial⟩
  exact zz_loc2 (L11 3 0 _ _ _ (by omega) (by omega) (tp_take_le hpos (by decide)) rfl hX1 hF1) ⟨rfl, rfl, rfl, trivial⟩

theorem ct_X2_takesBehind {l : Launch} {D : va_G} {b0 : Nat} {h : zz_H} {x : Nat} {ad : Nat → Nat} {a ah hi : Nat → Int32} {kp : Nat} {sl sv pd : Nat → Int32} {len : Nat} {so to : Nat → Int32} {pos : Nat} {wr : Bool} (hlen : len ≤ 80) (hpos : pos ≤ len) {v0 : Int32} (hv00 : qa_in 0 v0 v0 = false) (hX : tw_X D h x ad a ah hi kp sl sv pd len so (nI pos) (zz_b wr) to)  : zz_Ct l D b0 yX2_takesBehind cX2_takesBehind 3 (some .int) 3 67 0 0 [.ref x, .int v0] h (fun v h' => v = some (.int (tp_beh pd len v0 (pos, wr)).1) ∧ tw_X D h' x ad a ah hi kp sl sv pd len so (nI (tp_beh pd len v0 (pos, wr)).2.1) (zz_b (tp_beh pd len v0 (pos, wr)).2.2) to ∧ tw_F x ad h h') := by
  refine zz_Ct.of zy_X2_takesBehind.1 rfl ?_
  intro p e s m below meth c C
  have hM := hX.M
  obtain ⟨hx, h0, h1a, h2a, h3a, h4a, h5a, h6, h7, hd⟩ := id hX
  first | refine zz_aload_n C dX2_takesBehind_0 rfl ?_ | refine zz_aload_nN C dX2_takesBehind_0 rfl ?_
  refine zz_iload_n C dX2_takesBehind_1 rfl ?_
  refine zz_iload_n C dX2_takesBehind_2 rfl ?_
  refine zz_callV C zy_X2_takes (ct_X2_takes hlen (by omega) hX) rfl q1567 (by first | assumption | exact zz_us | exact zz_lk1 (by assumption) (by assumption) | exact zz_lk3 (hd _ _ (by decide) (by decide) (by decide)) (by assumption) | exact zz_uf (by assumption) (by assumption) | exact zz_lk3 (zz_xi (by assumption) (by assumption)) (zz_lk1 (by assumption) (by assumption)) | exact zz_lk3 (hd _ _ (by decide) (by decide) (by decide)) (zz_lk3 (hd _ _ (by decide) (by decide) (by decide)) (by assumption)) | (simp only [zz_up]; simp_all; done)) rfl rfl rfl rfl rfl rfl dX2_takesBehind_3 ⟨Nat.le_of_ble_eq_true rfl, Nat.le_of_ble_eq_true rfl⟩ (fun v hz hp => ?_)
  obtain ⟨rfl, hX1, hF1⟩ := hp
  clear hx h0 h1a h2a h3a h4a h5a h6 h7
  obtain ⟨hx, h0, h1a, h2a, h3a, h4a, h5a, h6, h7, -⟩ := id hX1
  refine zz_istore_n C dX2_takesBehind_6 (by decide) ?_
  first | refine zz_aload_n C dX2_takesBehind_7 rfl ?_ | refine zz_aload_nN C dX2_takesBehind_7 rfl ?_
  refine zz_callV C zy_X2_takesNumber (ct_X2_takesNumber hlen (tp_take_le hpos hv00) hX1) rfl q1571 (by first | assumption | exact zz_us | exact zz_lk1 (by assumption) (by assumption) | exact zz_lk3 (hd _ _ (by decide) (by decide) (by decide)) (by assumption) | exact zz_uf (by assumption) (by assumption) | exact zz_lk3 (zz_xi (by assumption) (by assumption)) (zz_lk1 (by assumption) (by assumption)) | exact zz_lk3 (hd _ _ (by decide) (by decide) (by decide)) (zz_lk3 (hd _ _ (by decide) (by decide) (by decide)) (by assumption)) | (simp only [zz_up]; simp_all; done)) rfl rfl rfl rfl rfl rfl dX2_takesBehind_8 ⟨Nat.le_of_ble_eq_true rfl, Nat.le_of_ble_eq_true rfl⟩ (fun v hz hp => ?_)
  obtain ⟨rfl, hX2, hF2⟩ := hp
  refine zz_iret C dX2_takesBehind_11 rfl rfl ?_
  exact ⟨rfl, hX2, hF1.tr hF2⟩

