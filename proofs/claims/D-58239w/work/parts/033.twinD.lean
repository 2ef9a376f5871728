/-! the twin: what is asked, the rest -/
theorem ct_X2_why {l : Launch} {D : va_G} {b0 : Nat} {h : zz_H} {x s0 : Nat} {a : Nat → Int32} {v0 : Int32} (nb : Nat) (h5 : a 5 = nI nb) (hnb : nb ≤ 24) (hw : qa_wk a nb) (hM : tw_M D h x s0 a) : zz_Ct l D b0 yX2_why cX2_why 2 (some .int) 5 115 0 0 [.ref x, .int v0] h (fun v h' => v = some (.int (if qa_in v0 0 2 = true then qa_why a nb v0 else -1)) ∧ h' = h) := by
  refine zz_Ct.of zy_X2_why.1 rfl ?_
  intro p e s m below meth c C
  have hM0 := hM
  obtain ⟨fs, hx, hf0, hs⟩ := hM0
  refine zz_iload_n C dX2_why_0 rfl ?_
  refine zz_callS C zy_X2_isLorry (ct_X2_isLorry) rfl q1380 rfl rfl rfl rfl rfl dX2_why_1 ⟨Nat.le_of_ble_eq_true rfl, Nat.le_of_ble_eq_true rfl⟩ (fun v hz hp => ?_)
  obtain ⟨rfl, ez⟩ := hp
  obtain rfl := ez.symm
  first | refine zz_ifb_eq (tgt := 15) C dX2_why_4 (by decide) (fun c4 => ?_) (fun c4 => ?_) | refine zz_if_eq (tgt := 15) C dX2_why_4 (by decide) (fun c4 => ?_) (fun c4 => ?_)
  · refine zz_iconst (v := (-1)) C dX2_why_15 (by decide) ?_
    refine zz_iret C dX2_why_16 rfl rfl ?_
    exact ⟨by first | rw [if_pos c4] | rw [if_neg (by rw [c4]; decide)], rfl⟩
  · obtain ⟨lr, hlr, ev⟩ := qa_ixk 2 (by omega) c4
    first | refine zz_aload_n C dX2_why_7 rfl ?_ | refine zz_aload_nN C dX2_why_7 rfl ?_
    refine zz_iload_n C dX2_why_8 rfl ?_
    refine zz_callV C zy_X2_whyNot (ct_X2_whyNot nb h5 hnb hw lr ev (by omega) hM) rfl q1403 (by first | assumption | exact zz_us | exact zz_lk1 (by assumption) (by assumption) | exact zz_lk3 (hd _ _ (by decide) (by decide) (by decide)) (by assumption) | exact zz_uf (by assumption) (by assumption) | exact zz_lk3 (zz_xi (by assumption) (by assumption)) (zz_lk1 (by assumption) (by assumption)) | exact zz_lk3 (hd _ _ (by decide) (by decide) (by decide)) (zz_lk3 (hd _ _ (by decide) (by decide) (by decide)) (by assumption)) | (simp only [zz_up]; simp_all; done)) rfl rfl rfl rfl rfl rfl dX2_why_9 ⟨Nat.le_of_ble_eq_true rfl, Nat.le_of_ble_eq_true rfl⟩ (fun v hz hp => ?_)
    obtain ⟨rfl, ez⟩ := hp
    obtain rfl := ez.symm
    refine zz_goto (tgt := 16) C dX2_why_12 (by decide) ?_
    refine zz_iret C dX2_why_16 rfl rfl ?_
    exact ⟨by first | rw [if_pos c4] | rw [if_neg (by rw [c4]; decide)], rfl⟩

theorem ct_X2_ofLorry {l : Launch} {D : va_G} {b0 : Nat} {h : zz_H} {x s0 : Nat} {a : Nat → Int32} {v0 v1 : Int32} (nb : Nat) (h5 : a 5 = nI nb) (hnb : nb ≤ 24) (hw : qa_wk a nb) (hM : tw_M D h x s0 a) : zz_Ct l D b0 yX2_ofLorry cX2_ofLorry 3 (some .int) 4 94 0 0 [.ref x, .int v0, .int v1] h (fun v h' => v = some (.int (op_ofLorry a v0 v1)) ∧ h' = h) := by
  refine zz_Ct.of zy_X2_ofLorry.1 rfl ?_
  intro p e s m below meth c C
  have hM0 := hM
  obtain ⟨fs, hx, hf0, hs⟩ := hM0
  have hn5 : (a 5).toNatClampNeg = nb := by rw [h5]; exact nI_clamp (by omega)
  refine zz_iload_n C dX2_ofLorry_0 rfl ?_
  refine zz_callS C zy_X2_isLorry (ct_X2_isLorry) rfl q1380 rfl rfl rfl rfl rfl dX2_ofLorry_1 ⟨Nat.le_of_ble_eq_true rfl, Nat.le_of_ble_eq_true rfl⟩ (fun v hz hp => ?_)
  obtain ⟨rfl, ez⟩ := hp
  obtain rfl := ez.symm
  first | refine zz_ifb_ne (tgt := 9) C dX2_ofLorry_4 (by decide) (fun c4 => ?_) (fun c4 => ?_) | refine zz_if_ne (tgt := 9) C dX2_ofLorry_4 (by decide) (fun c4 => ?_) (fun c4 => ?_)
  · obtain ⟨lr, hlr, ev⟩ := qa_ixk 2 (by omega) c4
    have eln : v0.toNatClampNeg = lr := by rw [ev]; exact nI_clamp (by omega)
    refine zz_iload_n C dX2_ofLorry_9 rfl ?_
    have hsw : v1 = nI 0 ∨ v1 = nI 1 ∨ v1 = nI 2 ∨ v1 = nI 3 ∨ v1 = nI 4 ∨ v1 = nI 5 ∨ v1 = nI 6 ∨ v1 = nI 7 ∨ (v1.toInt < 0 ∨ 7 < v1.toInt) := by
      rcases zz_sw 7 v1 with ⟨k, hk, ek⟩ | ho
      · rcases (show k = 0 ∨ k = 1 ∨ k = 2 ∨ k = 3 ∨ k = 4 ∨ k = 5 ∨ k = 6 ∨ k = 7 from by omega) with rfl | rfl | rfl | rfl | rfl | rfl | rfl | rfl
        · exact Or.inl ek
        · exact Or.inr (Or.inl ek)
        · exact Or.inr (Or.inr (Or.inl ek))
        · exact Or.inr (Or.inr (Or.inr (Or.inl ek)))
        · exact Or.inr (Or.inr (Or.inr (Or.inr (Or.inl ek))))
        · exact Or.inr (Or.inr (Or.inr (Or.inr (Or.inr (Or.inl ek)))))
        · exact Or.inr (Or.inr (Or.inr (Or.inr (Or.inr (Or.inr (Or.inl ek))))))
        · exact Or.inr (Or.inr (Or.inr (Or.inr (Or.inr (Or.inr (Or.inr (Or.inl ek)))))))
      · exact Or.inr (Or.inr (Or.inr (Or.inr (Or.inr (Or.inr (Or.inr (Or.inr (ho))))))))
    rcases hsw with ek | ek | ek | ek | ek | ek | ek | ek | ho
    · refine zz_tableIn (off := 46) (tgt := 56) C dX2_ofLorry_10 (by rw [ek]; decide) (by rw [ek]; decide) (by rw [ek]; decide) (by decide) ?_
      first | refine zz_aload_n C dX2_ofLorry_56 rfl ?_ | refine zz_aload_nN C dX2_ofLorry_56 rfl ?_
      refine zz_iload_n C dX2_ofLorry_57 rfl ?_
      refine zz_callV C zy_X2_loadOf (ct_X2_loadOf nb h5 hnb hM) rfl q1387 (by first | assumption | exact zz_us | exact zz_lk1 (by assumption) (by assumption) | exact zz_lk3 (hd _ _ (by decide) (by decide) (by decide)) (by assumption) | exact zz_uf (by assumption) (by assumption) | exact zz_lk3 (zz_xi (by assumption) (by assumption)) (zz_lk1 (by assumption) (by assumption)) | exact zz_lk3 (hd _ _ (by decide) (by decide) (by decide)) (zz_lk3 (hd _ _ (by decide) (by decide) (by decide)) (by assumption)) | (simp only [zz_up]; simp_all; done)) rfl rfl rfl rfl rfl rfl dX2_ofLorry_58 ⟨Nat.le_of_ble_eq_true rfl, Nat.le_of_ble_eq_true rfl⟩ (fun v hz hp => ?_)
      obtain ⟨rfl, ez⟩ := hp
      obtain rfl := ez.symm
      refine zz_iret C dX2_ofLorry_61 rfl rfl ?_
      refine ⟨?_, rfl⟩
      unfold op_ofLorry
      first
      | rw [if_pos c4]
      | (rw [if_neg (zz_tf c4), if_pos ho])
      | (rw [if_neg (zz_tf c4), eln, hn5, ek]; rfl)
    · refine zz_tableIn (off := 52) (tgt := 62) C dX2_ofLorry_10 (by rw [ek]; decide) (by rw [ek]; decide) (by rw [ek]; decide) (by decide) ?_
      first | refine zz_aload_n C dX2_ofLorry_62 rfl ?_ | refine zz_aload_nN C dX2_ofLorry_62 rfl ?_
      refine zz_iload_n C dX2_ofLorry_63 rfl ?_
      refine zz_joinI (pcJ := 74) (zz_b (decide (v1 = 2))) ?_ ?_
      · rintro z74 rfl
        refine zz_callV C zy_X2_axleNow (ct_X2_axleNow (c0 := decide (v1 = 2)) nb h5 hnb hw hM) rfl q1415 (by first | assumption | exact zz_us | exact zz_lk1 (by assumption) (by assumption) | exact zz_lk3 (hd _ _ (by decide) (by decide) (by decide)) (by assumption) | exact zz_uf (by assumption) (by assumption) | exact zz_lk3 (zz_xi (by assumption) (by assumption)) (zz_lk1 (by assumption) (by assumption)) | exact zz_lk3 (hd _ _ (by decide) (by decide) (by decide)) (zz_lk3 (hd _ _ (by decide) (by decide) (by decide)) (by assumption)) | (simp only [zz_up]; simp_all; done)) rfl rfl rfl rfl rfl rfl dX2_ofLorry_74 ⟨Nat.le_of_ble_eq_true rfl, Nat.le_of_ble_eq_true rfl⟩ (fun v hz hp => ?_)
        obtain ⟨rfl, ez⟩ := hp
        obtain rfl := ez.symm
        refine zz_callS C zy_X2_floatBits (ct_X2_floatBits ((qa_ax_kk hnb hw (Or.inl rfl)).wd (by decide) (by decide))) rfl q1484 rfl rfl rfl rfl rfl dX2_ofLorry_77 ⟨Nat.le_of_ble_eq_true rfl, Nat.le_of_ble_eq_true rfl⟩ (fun v hz hp => ?_)
        obtain ⟨rfl, ez⟩ := hp
        obtain rfl := ez.symm
        refine zz_iret C dX2_ofLorry_80 rfl rfl ?_
        refine ⟨?_, rfl⟩
        unfold op_ofLorry
        first
        | rw [if_pos c4]
        | (rw [if_neg (zz_tf c4), if_pos ho])
        | (rw [if_neg (zz_tf c4), eln, hn5, ek]; rfl)
      · intro J74
        refine zz_iload_n C dX2_ofLorry_64 rfl ?_
        refine zz_iconst (v := 2) C dX2_ofLorry_65 (by decide) ?_
        refine zz_icmp_ne (tgt := 73) C dX2_ofLorry_66 (by decide) (fun c66 => ?_) (fun c66 => ?_)
        · refine zz_iconst (v := 0) C dX2_ofLorry_73 (by decide) ?_
          exact J74 _ (by first | exact zz_bt (decide_eq_true ‹_›) | exact zz_bf (decide_eq_false ‹_›))
        · refine zz_iconst (v := 1) C dX2_ofLorry_69 (by decide) ?_
          refine zz_goto (tgt := 74) C dX2_ofLorry_70 (by decide) ?_
          exact J74 _ (by first | exact zz_bt (decide_eq_true ‹_›) | exact zz_bf (decide_eq_false ‹_›))
    · refine zz_tableIn (off := 52) (tgt := 62) C dX2_ofLorry_10 (by rw [ek]; decide) (by rw [ek]; decide) (by rw [ek]; decide) (by decide) ?_
      first | refine zz_aload_n C dX2_ofLorry_62 rfl ?_ | refine zz_aload_nN C dX2_ofLorry_62 rfl ?_
      refine zz_iload_n C dX2_ofLorry_63 rfl ?_
      refine zz_joinI (pcJ := 74) (zz_b (decide (v1 = 2))) ?_ ?_
      · rintro z74 rfl
        refine zz_callV C zy_X2_axleNow (ct_X2_axleNow (c0 := decide (v1 = 2)) nb h5 hnb hw hM) rfl q1415 (by first | assumption | exact zz_us | exact zz_lk1 (by assumption) (by assumption) | exact zz_lk3 (hd _ _ (by decide) (by decide) (by decide)) (by assumption) | exact zz_uf (by assumption) (by assumption) | exact zz_lk3 (zz_xi (by assumption) (by assumption)) (zz_lk1 (by assumption) (by assumption)) | exact zz_lk3 (hd _ _ (by decide) (by decide) (by decide)) (zz_lk3 (hd _ _ (by decide) (by decide) (by decide)) (by assumption)) | (simp only [zz_up]; simp_all; done)) rfl rfl rfl rfl rfl rfl dX2_ofLorry_74 ⟨Nat.le_of_ble_eq_true rfl, Nat.le_of_ble_eq_true rfl⟩ (fun v hz hp => ?_)
        obtain ⟨rfl, ez⟩ := hp
        obtain rfl := ez.symm
        refine zz_callS C zy_X2_floatBits (ct_X2_floatBits ((qa_ax_kk hnb hw (Or.inl rfl)).wd (by decide) (by decide))) rfl q1484 rfl rfl rfl rfl rfl dX2_ofLorry_77 ⟨Nat.le_of_ble_eq_true rfl, Nat.le_of_ble_eq_true rfl⟩ (fun v hz hp => ?_)
        obtain ⟨rfl, ez⟩ := hp
        obtain rfl := ez.symm
        refine zz_iret C dX2_ofLorry_80 rfl rfl ?_
        refine ⟨?_, rfl⟩
        unfold op_ofLorry
        first
        | rw [if_pos c4]
        | (rw [if_neg (zz_tf c4), if_pos ho])
        | (rw [if_neg (zz_tf c4), eln, hn5, ek]; rfl)
      · intro J74
        refine zz_iload_n C dX2_ofLorry_64 rfl ?_
        refine zz_iconst (v := 2) C dX2_ofLorry_65 (by decide) ?_
        refine zz_icmp_ne (tgt := 73) C dX2_ofLorry_66 (by decide) (fun c66 => ?_) (fun c66 => ?_)
        · refine zz_iconst (v := 0) C dX2_ofLorry_73 (by decide) ?_
          exact J74 _ (by first | exact zz_bt (decide_eq_true ‹_›) | exact zz_bf (decide_eq_false ‹_›))
        · refine zz_iconst (v := 1) C dX2_ofLorry_69 (by decide) ?_
          refine zz_goto (tgt := 74) C dX2_ofLorry_70 (by decide) ?_
          exact J74 _ (by first | exact zz_bt (decide_eq_true ‹_›) | exact zz_bf (decide_eq_false ‹_›))
    · refine zz_tableIn (off := 71) (tgt := 81) C dX2_ofLorry_10 (by rw [ek]; decide) (by rw [ek]; decide) (by rw [ek]; decide) (by decide) ?_
      first | refine zz_aload_n C dX2_ofLorry_81 rfl ?_ | refine zz_aload_nN C dX2_ofLorry_81 rfl ?_
      refine zz_iload_n C dX2_ofLorry_82 rfl ?_
      refine zz_callV C zy_X2_blocksOn (ct_X2_blocksOn nb h5 hnb hM) rfl q1407 (by first | assumption | exact zz_us | exact zz_lk1 (by assumption) (by assumption) | exact zz_lk3 (hd _ _ (by decide) (by decide) (by decide)) (by assumption) | exact zz_uf (by assumption) (by assumption) | exact zz_lk3 (zz_xi (by assumption) (by assumption)) (zz_lk1 (by assumption) (by assumption)) | exact zz_lk3 (hd _ _ (by decide) (by decide) (by decide)) (zz_lk3 (hd _ _ (by decide) (by decide) (by decide)) (by assumption)) | (simp only [zz_up]; simp_all; done)) rfl rfl rfl rfl rfl rfl dX2_ofLorry_83 ⟨Nat.le_of_ble_eq_true rfl, Nat.le_of_ble_eq_true rfl⟩ (fun v hz hp => ?_)
      obtain ⟨rfl, ez⟩ := hp
      obtain rfl := ez.symm
      refine zz_iret C dX2_ofLorry_86 rfl rfl ?_
      refine ⟨?_, rfl⟩
      unfold op_ofLorry
      first
      | rw [if_pos c4]
      | (rw [if_neg (zz_tf c4), if_pos ho])
      | (rw [if_neg (zz_tf c4), eln, hn5, ek]; rfl)
    · refine zz_tableIn (off := 77) (tgt := 87) C dX2_ofLorry_10 (by rw [ek]; decide) (by rw [ek]; decide) (by rw [ek]; decide) (by decide) ?_
      first | refine zz_aload_n C dX2_ofLorry_87 rfl ?_ | refine zz_aload_nN C dX2_ofLorry_87 rfl ?_
      refine zz_get C rfl (by first | assumption | exact zz_us | exact zz_lk1 (by assumption) (by assumption) | exact zz_lk3 (hd _ _ (by decide) (by decide) (by decide)) (by assumption) | exact zz_uf (by assumption) (by assumption) | exact zz_lk3 (zz_xi (by assumption) (by assumption)) (zz_lk1 (by assumption) (by assumption)) | exact zz_lk3 (hd _ _ (by decide) (by decide) (by decide)) (zz_lk3 (hd _ _ (by decide) (by decide) (by decide)) (by assumption)) | (simp only [zz_up]; simp_all; done)) rfl in_X2 0 rfl q1230 (fun _ h => h) (by first | rfl | assumption) dX2_ofLorry_88 ?_
      refine zz_iload_n C dX2_ofLorry_91 rfl ?_
      refine zz_iload_n C dX2_ofLorry_92 rfl ?_
      refine zz_iconst (v := nI 4) C dX2_ofLorry_93 (by decide) ?_
      refine zz_isub C dX2_ofLorry_94 ?_
      refine zz_callS C zy_X2_ofLorryAt (ct_X2_ofLorryAt lr _ ev (zz_sb 4 ek (by decide))) rfl q1227 rfl rfl rfl rfl rfl dX2_ofLorry_95 ⟨Nat.le_of_ble_eq_true rfl, Nat.le_of_ble_eq_true rfl⟩ (fun v hz hp => ?_)
      obtain ⟨rfl, ez⟩ := hp
      obtain rfl := ez.symm
      refine zz_iald C (by first | assumption | exact zz_us | exact zz_lk1 (by assumption) (by assumption) | exact zz_lk3 (hd _ _ (by decide) (by decide) (by decide)) (by assumption) | exact zz_uf (by assumption) (by assumption) | exact zz_lk3 (zz_xi (by assumption) (by assumption)) (zz_lk1 (by assumption) (by assumption)) | exact zz_lk3 (hd _ _ (by decide) (by decide) (by decide)) (zz_lk3 (hd _ _ (by decide) (by decide) (by decide)) (by assumption)) | (simp only [zz_up]; simp_all; done)) rfl (by omega) (by omega) dX2_ofLorry_98 ?_
      refine zz_iret C dX2_ofLorry_99 rfl rfl ?_
      refine ⟨?_, rfl⟩
      unfold op_ofLorry
      first
      | rw [if_pos c4]
      | (rw [if_neg (zz_tf c4), if_pos ho])
      | (rw [if_neg (zz_tf c4), eln, hn5, ek]; rfl)
    · refine zz_tableIn (off := 77) (tgt := 87) C dX2_ofLorry_10 (by rw [ek]; decide) (by rw [ek]; decide) (by rw [ek]; decide) (by decide) ?_
      first | refine zz_aload_n C dX2_ofLorry_87 rfl ?_ | refine zz_aload_nN C dX2_ofLorry_87 rfl ?_
      refine zz_get C rfl (by first | assumption | exact zz_us | exact zz_lk1 (by assumption) (by assumption) | exact zz_lk3 (hd _ _ (by decide) (by decide) (by decide)) (by assumption) | exact zz_uf (by assumption) (by assumption) | exact zz_lk3 (zz_xi (by assumption) (by assumption)) (zz_lk1 (by assumption) (by assumption)) | exact zz_lk3 (hd _ _ (by decide) (by decide) (by decide)) (zz_lk3 (hd _ _ (by decide) (by decide) (by decide)) (by assumption)) | (simp only [zz_up]; simp_all; done)) rfl in_X2 0 rfl q1230 (fun _ h => h) (by first | rfl | assumption) dX2_ofLorry_88 ?_
      refine zz_iload_n C dX2_ofLorry_91 rfl ?_
      refine zz_iload_n C dX2_ofLorry_92 rfl ?_
      refine zz_iconst (v := nI 4) C dX2_ofLorry_93 (by decide) ?_
      refine zz_isub C dX2_ofLorry_94 ?_
      refine zz_callS C zy_X2_ofLorryAt (ct_X2_ofLorryAt lr _ ev (zz_sb 4 ek (by decide))) rfl q1227 rfl rfl rfl rfl rfl dX2_ofLorry_95 ⟨Nat.le_of_ble_eq_true rfl, Nat.le_of_ble_eq_true rfl⟩ (fun v hz hp => ?_)
      obtain ⟨rfl, ez⟩ := hp
      obtain rfl := ez.symm
      refine zz_iald C (by first | assumption | exact zz_us | exact zz_lk1 (by assumption) (by assumption) | exact zz_lk3 (hd _ _ (by decide) (by decide) (by decide)) (by assumption) | exact zz_uf (by assumption) (by assumption) | exact zz_lk3 (zz_xi (by assumption) (by assumption)) (zz_lk1 (by assumption) (by assumption)) | exact zz_lk3 (hd _ _ (by decide) (by decide) (by decide)) (zz_lk3 (hd _ _ (by decide) (by decide) (by decide)) (by assumption)) | (simp only [zz_up]; simp_all; done)) rfl (by omega) (by omega) dX2_ofLorry_98 ?_
      refine zz_iret C dX2_ofLorry_99 rfl rfl ?_
      refine ⟨?_, rfl⟩
      unfold op_ofLorry
      first
      | rw [if_pos c4]
      | (rw [if_neg (zz_tf c4), if_pos ho])
      | (rw [if_neg (zz_tf c4), eln, hn5, ek]; rfl)
    · refine zz_tableIn (off := 77) (tgt := 87) C dX2_ofLorry_10 (by rw [ek]; decide) (by rw [ek]; decide) (by rw [ek]; decide) (by decide) ?_
      first | refine zz_aload_n C dX2_ofLorry_87 rfl ?_ | refine zz_aload_nN C dX2_ofLorry_87 rfl ?_
      refine zz_get C rfl (by first | assumption | exact zz_us | exact zz_lk1 (by assumption) (by assumption) | exact zz_lk3 (hd _ _ (by decide) (by decide) (by decide)) (by assumption) | exact zz_uf (by assumption) (by assumption) | exact zz_lk3 (zz_xi (by assumption) (by assumption)) (zz_lk1 (by assumption) (by assumption)) | exact zz_lk3 (hd _ _ (by decide) (by decide) (by decide)) (zz_lk3 (hd _ _ (by decide) (by decide) (by decide)) (by assumption)) | (simp only [zz_up]; simp_all; done)) rfl in_X2 0 rfl q1230 (fun _ h => h) (by first | rfl | assumption) dX2_ofLorry_88 ?_
      refine zz_iload_n C dX2_ofLorry_91 rfl ?_
      refine zz_iload_n C dX2_ofLorry_92 rfl ?_
      refine zz_iconst (v := nI 4) C dX2_ofLorry_93 (by decide) ?_
      refine zz_isub C dX2_ofLorry_94 ?_
      refine zz_callS C zy_X2_ofLorryAt (ct_X2_ofLorryAt lr _ ev (zz_sb 4 ek (by decide))) rfl q1227 rfl rfl rfl rfl rfl dX2_ofLorry_95 ⟨Nat.le_of_ble_eq_true rfl, Nat.le_of_ble_eq_true rfl⟩ (fun v hz hp => ?_)
      obtain ⟨rfl, ez⟩ := hp
      obtain rfl := ez.symm
      refine zz_iald C (by first | assumption | exact zz_us | exact zz_lk1 (by assumption) (by assumption) | exact zz_lk3 (hd _ _ (by decide) (by decide) (by decide)) (by assumption) | exact zz_uf (by assumption) (by assumption) | exact zz_lk3 (zz_xi (by assumption) (by assumption)) (zz_lk1 (by assumption) (by assumption)) | exact zz_lk3 (hd _ _ (by decide) (by decide) (by decide)) (zz_lk3 (hd _ _ (by decide) (by decide) (by decide)) (by assumption)) | (simp only [zz_up]; simp_all; done)) rfl (by omega) (by omega) dX2_ofLorry_98 ?_
      refine zz_iret C dX2_ofLorry_99 rfl rfl ?_
      refine ⟨?_, rfl⟩
      unfold op_ofLorry
      first
      | rw [if_pos c4]
      | (rw [if_neg (zz_tf c4), if_pos ho])
      | (rw [if_neg (zz_tf c4), eln, hn5, ek]; rfl)
    · refine zz_tableIn (off := 77) (tgt := 87) C dX2_ofLorry_10 (by rw [ek]; decide) (by rw [ek]; decide) (by rw [ek]; decide) (by decide) ?_
      first | refine zz_aload_n C dX2_ofLorry_87 rfl ?_ | refine zz_aload_nN C dX2_ofLorry_87 rfl ?_
      refine zz_get C rfl (by first | assumption | exact zz_us | exact zz_lk1 (by assumption) (by assumption) | exact zz_lk3 (hd _ _ (by decide) (by decide) (by decide)) (by assumption) | exact zz_uf (by assumption) (by assumption) | exact zz_lk3 (zz_xi (by assumption) (by assumption)) (zz_lk1 (by assumption) (by assumption)) | exact zz_lk3 (hd _ _ (by decide) (by decide) (by decide)) (zz_lk3 (hd _ _ (by decide) (by decide) (by decide)) (by assumption)) | (simp only [zz_up]; simp_all; done)) rfl in_X2 0 rfl q1230 (fun _ h => h) (by first | rfl | assumption) dX2_ofLorry_88 ?_
      refine zz_iload_n C dX2_ofLorry_91 rfl ?_
      refine zz_iload_n C dX2_ofLorry_92 rfl ?_
      refine zz_iconst (v := nI 4) C dX2_ofLorry_93 (by decide) ?_
      refine zz_isub C dX2_ofLorry_94 ?_
      refine zz_callS C zy_X2_ofLorryAt (ct_X2_ofLorryAt lr _ ev (zz_sb 4 ek (by decide))) rfl q1227 rfl rfl rfl rfl rfl dX2_ofLorry_95 ⟨Nat.le_of_ble_eq_true rfl, Nat.le_of_ble_eq_true rfl⟩ (fun v hz hp => ?_)
      obtain ⟨rfl, ez⟩ := hp
      obtain rfl := ez.symm
      refine zz_iald C (by first | assumption | exact zz_us | exact zz_lk1 (by assumption) (by assumption) | exact zz_lk3 (hd _ _ (by decide) (by decide) (by decide)) (by assumption) | exact zz_uf (by assumption) (by assumption) | exact zz_lk3 (zz_xi (by assumption) (by assumption)) (zz_lk1 (by assumption) (by assumption)) | exact zz_lk3 (hd _ _ (by decide) (by decide) (by decide)) (zz_lk3 (hd _ _ (by decide) (by decide) (by decide)) (by assumption)) | (simp only [zz_up]; simp_all; done)) rfl (by omega) (by omega) dX2_ofLorry_98 ?_
      refine zz_iret C dX2_ofLorry_99 rfl rfl ?_
      refine ⟨?_, rfl⟩
      unfold op_ofLorry
      first
      | rw [if_pos c4]
      | (rw [if_neg (zz_tf c4), if_pos ho])
      | (rw [if_neg (zz_tf c4), eln, hn5, ek]; rfl)
    · refine zz_tableOut (tgt := 100) C dX2_ofLorry_10 ho (by decide) ?_
      refine zz_bipush (v := (-2)) C dX2_ofLorry_100 (by decide) ?_
      refine zz_iret C dX2_ofLorry_102 rfl rfl ?_
      refine ⟨?_, rfl⟩
      unfold op_ofLorry
      first
      | rw [if_pos c4]
      | (rw [if_neg (zz_tf c4), if_pos ho])
      | (rw [if_neg (zz_tf c4), eln, hn5, ek]; rfl)
  · refine zz_iconst (v := (-1)) C dX2_ofLorry_7 (by decide) ?_
    refine zz_iret C dX2_ofLorry_8 rfl rfl ?_
    refine ⟨?_, rfl⟩
    unfold op_ofLorry
    first
    | rw [if_pos c4]
    | (rw [if_neg (zz_tf c4), if_pos ho])
    | (rw [if_neg (zz_tf c4), eln, hn5, ek]; rfl)

theorem ct_X2_count {l : Launch} {D : va_G} {b0 : Nat} {h : zz_H} {x : Nat} {ad : Nat → Nat} {a ah hi : Nat → Int32} {kp : Nat} {sl sv pd : Nat → Int32} {len : Nat} {so : Nat → Int32} {pos wr : Int32} {to : Nat → Int32} {v0 : Int32} (nb : Nat) (h5 : a 5 = nI nb) (hnb : nb ≤ 24) (hX : tw_X D h x ad a ah hi kp sl sv pd len so pos wr to) : zz_Ct l D b0 yX2_count cX2_count 2 (some .int) 3 67 0 0 [.ref x, .int v0] h (fun v h' => v = some (.int (op_count a len kp v0)) ∧ h' = h) := by
  refine zz_Ct.of zy_X2_count.1 rfl ?_
  intro p e s m below meth c C
  have hM := hX.M
  obtain ⟨hx, h0, h1a, h2a, h3a, h4a, h5a, h6, h7, hd⟩ := id hX
  have hn5 : (a 5).toNatClampNeg = nb := by rw [h5]; exact nI_clamp (by omega)
  refine zz_iload_n C dX2_count_0 rfl ?_
  have hsw : v0 = nI 0 ∨ v0 = nI 1 ∨ v0 = nI 2 ∨ v0 = nI 3 ∨ v0 = nI 4 ∨ v0 = nI 5 ∨ v0 = nI 6 ∨ v0 = nI 7 ∨ v0 = nI 8 ∨ v0 = nI 9 ∨ v0 = nI 10 ∨ v0 = nI 11 ∨ v0 = nI 12 ∨ v0 = nI 13 ∨ v0 = nI 14 ∨ v0 = nI 15 ∨ v0 = nI 16 ∨ (v0.toInt < 0 ∨ 16 < v0.toInt) := by
    rcases zz_sw 16 v0 with ⟨k, hk, ek⟩ | ho
    · rcases (show k = 0 ∨ k = 1 ∨ k = 2 ∨ k = 3 ∨ k = 4 ∨ k = 5 ∨ k = 6 ∨ k = 7 ∨ k = 8 ∨ k = 9 ∨ k = 10 ∨ k = 11 ∨ k = 12 ∨ k = 13 ∨ k = 14 ∨ k = 15 ∨ k = 16 from by omega) with rfl | rfl | rfl | rfl | rfl | rfl | rfl | rfl | rfl | rfl | rfl | rfl | rfl | rfl | rfl | rfl | rfl
      · exact Or.inl ek
      · exact Or.inr (Or.inl ek)
      · exact Or.inr (Or.inr (Or.inl ek))
      · exact Or.inr (Or.inr (Or.inr (Or.inl ek)))
      · exact Or.inr (Or.inr (Or.inr (Or.inr (Or.inl ek))))
      · exact Or.inr (Or.inr (Or.inr (Or.inr (Or.inr (Or.inl ek)))))
      · exact Or.inr (Or.inr (Or.inr (Or.inr (Or.inr (Or.inr (Or.inl ek))))))
      · exact Or.inr (Or.inr (Or.inr (Or.inr (Or.inr (Or.inr (Or.inr (Or.inl ek)))))))
      · exact Or.inr (Or.inr (Or.inr (Or.inr (Or.inr (Or.inr (Or.inr (Or.inr (Or.inl ek))))))))
      · exact Or.inr (Or.inr (Or.inr (Or.inr (Or.inr (Or.inr (Or.inr (Or.inr (Or.inr (Or.inl ek)))))))))
      · exact Or.inr (Or.inr (Or.inr (Or.inr (Or.inr (Or.inr (Or.inr (Or.inr (Or.inr (Or.inr (Or.inl ek))))))))))
      · exact Or.inr (Or.inr (Or.inr (Or.inr (Or.inr (Or.inr (Or.inr (Or.inr (Or.inr (Or.inr (Or.inr (Or.inl ek)))))))))))
      · exact Or.inr (Or.inr (Or.inr (Or.inr (Or.inr (Or.inr (Or.inr (Or.inr (Or.inr (Or.inr (Or.inr (Or.inr (Or.inl ek))))))))))))
      · exact Or.inr (Or.inr (Or.inr (Or.inr (Or.inr (Or.inr (Or.inr (Or.inr (Or.inr (Or.inr (Or.inr (Or.inr (Or.inr (Or.inl ek)))))))))))))
      · exact Or.inr (Or.inr (Or.inr (Or.inr (Or.inr (Or.inr (Or.inr (Or.inr (Or.inr (Or.inr (Or.inr (Or.inr (Or.inr (Or.inr (Or.inl ek))))))))))))))
      · exact Or.inr (Or.inr (Or.inr (Or.inr (Or.inr (Or.inr (Or.inr (Or.inr (Or.inr (Or.inr (Or.inr (Or.inr (Or.inr (Or.inr (Or.inr (Or.inl ek)))))))))))))))
      · exact Or.inr (Or.inr (Or.inr (Or.inr (Or.inr (Or.inr (Or.inr (Or.inr (Or.inr (Or.inr (Or.inr (Or.inr (Or.inr (Or.inr (Or.inr (Or.inr (Or.inl ek))))))))))))))))
    · exact Or.inr (Or.inr (Or.inr (Or.inr (Or.inr (Or.inr (Or.inr (Or.inr (Or.inr (Or.inr (Or.inr (Or.inr (Or.inr (Or.inr (Or.inr (Or.inr (Or.inr (ho)))))))))))))))))
  rcases hsw with ek | ek | ek | ek | ek | ek | ek | ek | ek | ek | ek | ek | ek | ek | ek | ek | ek | ho
  · refine zz_tableIn (off := 83) (tgt := 84) C dX2_count_1 (by rw [ek]; decide) (by rw [ek]; decide) (by rw [ek]; decide) (by decide) ?_
    first | refine zz_aload_n C dX2_count_84 rfl ?_ | refine zz_aload_nN C dX2_count_84 rfl ?_
    refine zz_get C rfl (by first | assumption | exact zz_us | exact zz_lk1 (by assumption) (by assumption) | exact zz_lk3 (hd _ _ (by decide) (by decide) (by decide)) (by assumption) | exact zz_uf (by assumption) (by assumption) | exact zz_lk3 (zz_xi (by assumption) (by assumption)) (zz_lk1 (by assumption) (by assumption)) | exact zz_lk3 (hd _ _ (by decide) (by decide) (by decide)) (zz_lk3 (hd _ _ (by decide) (by decide) (by decide)) (by assumption)) | (simp only [zz_up]; simp_all; done)) rfl in_X2 0 rfl q1230 (fun _ h => h) (by first | rfl | assumption) dX2_count_85 ?_
    refine zz_iconst (v := nI 4) C dX2_count_88 (by decide) ?_
    refine zz_iload_n C dX2_count_89 rfl ?_
    refine zz_iadd C dX2_count_90 ?_
    refine zz_iald C (by first | assumption | exact zz_us | exact zz_lk1 (by assumption) (by assumption) | exact zz_lk3 (hd _ _ (by decide) (by decide) (by decide)) (by assumption) | exact zz_uf (by assumption) (by assumption) | exact zz_lk3 (zz_xi (by assumption) (by assumption)) (zz_lk1 (by assumption) (by assumption)) | exact zz_lk3 (hd _ _ (by decide) (by decide) (by decide)) (zz_lk3 (hd _ _ (by decide) (by decide) (by decide)) (by assumption)) | (simp only [zz_up]; simp_all; done)) (by rw [ek]; exact nI_add 4 _) (by omega) (by omega) dX2_count_91 ?_
    refine zz_iret C dX2_count_92 rfl rfl ?_
    refine ⟨?_, rfl⟩
    unfold op_count
    first
    | (rw [if_pos ho])
    | (rw [hn5, ek]; rfl)
  · refine zz_tableIn (off := 83) (tgt := 84) C dX2_count_1 (by rw [ek]; decide) (by rw [ek]; decide) (by rw [ek]; decide) (by decide) ?_
    first | refine zz_aload_n C dX2_count_84 rfl ?_ | refine zz_aload_nN C dX2_count_84 rfl ?_
    refine zz_get C rfl (by first | assumption | exact zz_us | exact zz_lk1 (by assumption) (by assumption) | exact zz_lk3 (hd _ _ (by decide) (by decide) (by decide)) (by assumption) | exact zz_uf (by assumption) (by assumption) | exact zz_lk3 (zz_xi (by assumption) (by assumption)) (zz_lk1 (by assumption) (by assumption)) | exact zz_lk3 (hd _ _ (by decide) (by decide) (by decide)) (zz_lk3 (hd _ _ (by decide) (by decide) (by decide)) (by assumption)) | (simp only [zz_up]; simp_all; done)) rfl in_X2 0 rfl q1230 (fun _ h => h) (by first | rfl | assumption) dX2_count_85 ?_
    refine zz_iconst (v := nI 4) C dX2_count_88 (by decide) ?_
    refine zz_iload_n C dX2_count_89 rfl ?_
    refine zz_iadd C dX2_count_90 ?_
    refine zz_iald C (by first | assumption | exact zz_us | exact zz_lk1 (by assumption) (by assumption) | exact zz_lk3 (hd _ _ (by decide) (by decide) (by decide)) (by assumption) | exact zz_uf (by assumption) (by assumption) | exact zz_lk3 (zz_xi (by assumption) (by assumption)) (zz_lk1 (by assumption) (by assumption)) | exact zz_lk3 (hd _ _ (by decide) (by decide) (by decide)) (zz_lk3 (hd _ _ (by decide) (by decide) (by decide)) (by assumption)) | (simp only [zz_up]; simp_all; done)) (by rw [ek]; exact nI_add 4 _) (by omega) (by omega) dX2_count_91 ?_
    refine zz_iret C dX2_count_92 rfl rfl ?_
    refine ⟨?_, rfl⟩
    unfold op_count
    first
    | (rw [if_pos ho])
    | (rw [hn5, ek]; rfl)
  · refine zz_tableIn (off := 83) (tgt := 84) C dX2_count_1 (by rw [ek]; decide) (by rw [ek]; decide) (by rw [ek]; decide) (by decide) ?_
    first | refine zz_aload_n C dX2_count_84 rfl ?_ | refine zz_aload_nN C dX2_count_84 rfl ?_
    refine zz_get C rfl (by first | assumption | exact zz_us | exact zz_lk1 (by assumption) (by assumption) | exact zz_lk3 (hd _ _ (by decide) (by decide) (by decide)) (by assumption) | exact zz_uf (by assumption) (by assumption) | exact zz_lk3 (zz_xi (by assumption) (by assumption)) (zz_lk1 (by assumption) (by assumption)) | exact zz_lk3 (hd _ _ (by decide) (by decide) (by decide)) (zz_lk3 (hd _ _ (by decide) (by decide) (by decide)) (by assumption)) | (simp only [zz_up]; simp_all; done)) rfl in_X2 0 rfl q1230 (fun _ h => h) (by first | rfl | assumption) dX2_count_85 ?_
    refine zz_iconst (v := nI 4) C dX2_count_88 (by decide) ?_
    refine zz_iload_n C dX2_count_89 rfl ?_
    refine zz_iadd C dX2_count_90 ?_
    refine zz_iald C (by first | assumption | exact zz_us | exact zz_lk1 (by assumption) (by assumption) | exact zz_lk3 (hd _ _ (by decide) (by decide) (by decide)) (by assumption) | exact zz_uf (by assumption) (by assumption) | exact zz_lk3 (zz_xi (by assumption) (by assumption)) (zz_lk1 (by assumption) (by assumption)) | exact zz_lk3 (hd _ _ (by decide) (by decide) (by decide)) (zz_lk3 (hd _ _ (by decide) (by decide) (by decide)) (by assumption)) | (simp only [zz_up]; simp_all; done)) (by rw [ek]; exact nI_add 4 _) (by omega) (by omega) dX2_count_91 ?_
    refine zz_iret C dX2_count_92 rfl rfl ?_
    refine ⟨?_, rfl⟩
    unfold op_count
    first
    | (rw [if_pos ho])
    | (rw [hn5, ek]; rfl)
  · refine zz_tableIn (off := 83) (tgt := 84) C dX2_count_1 (by rw [ek]; decide) (by rw [ek]; decide) (by rw [ek]; decide) (by decide) ?_
    first | refine zz_aload_n C dX2_count_84 rfl ?_ | refine zz_aload_nN C dX2_count_84 rfl ?_
    refine zz_get C rfl (by first | assumption | exact zz_us | exact zz_lk1 (by assumption) (by assumption) | exact zz_lk3 (hd _ _ (by decide) (by decide) (by decide)) (by assumption) | exact zz_uf (by assumption) (by assumption) | exact zz_lk3 (zz_xi (by assumption) (by assumption)) (zz_lk1 (by assumption) (by assumption)) | exact zz_lk3 (hd _ _ (by decide) (by decide) (by decide)) (zz_lk3 (hd _ _ (by decide) (by decide) (by decide)) (by assumption)) | (simp only [zz_up]; simp_all; done)) rfl in_X2 0 rfl q1230 (fun _ h => h) (by first | rfl | assumption) dX2_count_85 ?_
    refine zz_iconst (v := nI 4) C dX2_count_88 (by decide) ?_
    refine zz_iload_n C dX2_count_89 rfl ?_
    refine zz_iadd C dX2_count_90 ?_
    refine zz_iald C (by first | assumption | exact zz_us | exact zz_lk1 (by assumption) (by assumption) | exact zz_lk3 (hd _ _ (by decide) (by decide) (by decide)) (by assumption) | exact zz_uf (by assumption) (by assumption) | exact zz_lk3 (zz_xi (by assumption) (by assumption)) (zz_lk1 (by assumption) (by assumption)) | exact zz_lk3 (hd _ _ (by decide) (by decide) (by decide)) (zz_lk3 (hd _ _ (by decide) (by decide) (by decide)) (by assumption)) | (simp only [zz_up]; simp_all; done)) (by rw [ek]; exact nI_add 4 _) (by omega) (by omega) dX2_count_91 ?_
    refine zz_iret C dX2_count_92 rfl rfl ?_
    refine ⟨?_, rfl⟩
    unfold op_count
    first
    | (rw [if_pos ho])
    | (rw [hn5, ek]; rfl)
  · refine zz_tableIn (off := 92) (tgt := 93) C dX2_count_1 (by rw [ek]; decide) (by rw [ek]; decide) (by rw [ek]; decide) (by decide) ?_
    first | refine zz_aload_n C dX2_count_93 rfl ?_ | refine zz_aload_nN C dX2_count_93 rfl ?_
    refine zz_joinI (pcJ := 104) (zz_b (decide (v0 = 5))) ?_ ?_
    · rintro z104 rfl
      refine zz_callV C zy_X2_setOf (ct_X2_setOf (c0 := decide (v0 = 5)) nb h5 hnb hM) rfl q1494 (by first | assumption | exact zz_us | exact zz_lk1 (by assumption) (by assumption) | exact zz_lk3 (hd _ _ (by decide) (by decide) (by decide)) (by assumption) | exact zz_uf (by assumption) (by assumption) | exact zz_lk3 (zz_xi (by assumption) (by assumption)) (zz_lk1 (by assumption) (by assumption)) | exact zz_lk3 (hd _ _ (by decide) (by decide) (by decide)) (zz_lk3 (hd _ _ (by decide) (by decide) (by decide)) (by assumption)) | (simp only [zz_up]; simp_all; done)) rfl rfl rfl rfl rfl rfl dX2_count_104 ⟨Nat.le_of_ble_eq_true rfl, Nat.le_of_ble_eq_true rfl⟩ (fun v hz hp => ?_)
      obtain ⟨rfl, ez⟩ := hp
      obtain rfl := ez.symm
      refine zz_iret C dX2_count_107 rfl rfl ?_
      refine ⟨?_, rfl⟩
      unfold op_count
      first
      | (rw [if_pos ho])
      | (rw [hn5, ek]; rfl)
    · intro J104
      refine zz_iload_n C dX2_count_94 rfl ?_
      refine zz_iconst (v := 5) C dX2_count_95 (by decide) ?_
      refine zz_icmp_ne (tgt := 103) C dX2_count_96 (by decide) (fun c96 => ?_) (fun c96 => ?_)
      · refine zz_iconst (v := 0) C dX2_count_103 (by decide) ?_
        exact J104 _ (by first | exact zz_bt (decide_eq_true ‹_›) | exact zz_bf (decide_eq_false ‹_›))
      · refine zz_iconst (v := 1) C dX2_count_99 (by decide) ?_
        refine zz_goto (tgt := 104) C dX2_count_100 (by decide) ?_
        exact J104 _ (by first | exact zz_bt (decide_eq_true ‹_›) | exact zz_bf (decide_eq_false ‹_›))
  · refine zz_tableIn (off := 92) (tgt := 93) C dX2_count_1 (by rw [ek]; decide) (by rw [ek]; decide) (by rw [ek]; decide) (by decide) ?_
    first | refine zz_aload_n C dX2_count_93 rfl ?_ | refine zz_aload_nN C dX2_count_93 rfl ?_
    refine zz_joinI (pcJ := 104) (zz_b (decide (v0 = 5))) ?_ ?_
    · rintro z104 rfl
      refine zz_callV C zy_X2_setOf (ct_X2_setOf (c0 := decide (v0 = 5)) nb h5 hnb hM) rfl q1494 (by first | assumption | exact zz_us | exact zz_lk1 (by assumption) (by assumption) | exact zz_lk3 (hd _ _ (by decide) (by decide) (by decide)) (by assumption) | exact zz_uf (by assumption) (by assumption) | exact zz_lk3 (zz_xi (by assumption) (by assumption)) (zz_lk1 (by assumption) (by assumption)) | exact zz_lk3 (hd _ _ (by decide) (by decide) (by decide)) (zz_lk3 (hd _ _ (by decide) (by decide) (by decide)) (by assumption)) | (simp only [zz_up]; simp_all; done)) rfl rfl rfl rfl rfl rfl dX2_count_104 ⟨Nat.le_of_ble_eq_true rfl, Nat.le_of_ble_eq_true rfl⟩ (fun v hz hp => ?_)
      obtain ⟨rfl, ez⟩ := hp
      obtain rfl := ez.symm
      refine zz_iret C dX2_count_107 rfl rfl ?_
      refine ⟨?_, rfl⟩
      unfold op_count
      first
      | (rw [if_pos ho])
      | (rw [hn5, ek]; rfl)
    · intro J104
      refine zz_iload_n C dX2_count_94 rfl ?_
      refine zz_iconst (v := 5) C dX2_count_95 (by decide) ?_
      refine zz_icmp_ne (tgt := 103) C dX2_count_96 (by decide) (fun c96 => ?_) (fun c96 => ?_)
      · refine zz_iconst (v := 0) C dX2_count_103 (by decide) ?_
        exact J104 _ (by first | exact zz_bt (decide_eq_true ‹_›) | exact zz_bf (decide_eq_false ‹_›))
      · refine zz_iconst (v := 1) C dX2_count_99 (by decide) ?_
        refine zz_goto (tgt := 104) C dX2_count_100 (by decide) ?_
        exact J104 _ (by first | exact zz_bt (decide_eq_true ‹_›) | exact zz_bf (decide_eq_false ‹_›))
  · refine zz_tableIn (off := 107) (tgt := 108) C dX2_count_1 (by rw [ek]; decide) (by rw [ek]; decide) (by rw [ek]; decide) (by decide) ?_
    first | refine zz_aload_n C dX2_count_108 rfl ?_ | refine zz_aload_nN C dX2_count_108 rfl ?_
    refine zz_get C rfl (by first | assumption | exact zz_us | exact zz_lk1 (by assumption) (by assumption) | exact zz_lk3 (hd _ _ (by decide) (by decide) (by decide)) (by assumption) | exact zz_uf (by assumption) (by assumption) | exact zz_lk3 (zz_xi (by assumption) (by assumption)) (zz_lk1 (by assumption) (by assumption)) | exact zz_lk3 (hd _ _ (by decide) (by decide) (by decide)) (zz_lk3 (hd _ _ (by decide) (by decide) (by decide)) (by assumption)) | (simp only [zz_up]; simp_all; done)) rfl in_X2 0 rfl q1230 (fun _ h => h) (by first | rfl | assumption) dX2_count_109 ?_
    refine zz_bipush (v := nI 8) C dX2_count_112 (by decide) ?_
    refine zz_iald C (by first | assumption | exact zz_us | exact zz_lk1 (by assumption) (by assumption) | exact zz_lk3 (hd _ _ (by decide) (by decide) (by decide)) (by assumption) | exact zz_uf (by assumption) (by assumption) | exact zz_lk3 (zz_xi (by assumption) (by assumption)) (zz_lk1 (by assumption) (by assumption)) | exact zz_lk3 (hd _ _ (by decide) (by decide) (by decide)) (zz_lk3 (hd _ _ (by decide) (by decide) (by decide)) (by assumption)) | (simp only [zz_up]; simp_all; done)) rfl (by omega) (by omega) dX2_count_114 ?_
    refine zz_iret C dX2_count_115 rfl rfl ?_
    refine ⟨?_, rfl⟩
    unfold op_count
    first
    | (rw [if_pos ho])
    | (rw [hn5, ek]; rfl)
  · refine zz_tableIn (off := 115) (tgt := 116) C dX2_count_1 (by rw [ek]; decide) (by rw [ek]; decide) (by rw [ek]; decide) (by decide) ?_
    first | refine zz_aload_n C dX2_count_116 rfl ?_ | refine zz_aload_nN C dX2_count_116 rfl ?_
    refine zz_iconst (v := 1) C dX2_count_117 (by decide) ?_
    refine zz_callV C zy_X2_notCut (ct_X2_notCut (c0 := true) nb h5 hnb hM) rfl q1498 (by first | assumption | exact zz_us | exact zz_lk1 (by assumption) (by assumption) | exact zz_lk3 (hd _ _ (by decide) (by decide) (by decide)) (by assumption) | exact zz_uf (by assumption) (by assumption) | exact zz_lk3 (zz_xi (by assumption) (by assumption)) (zz_lk1 (by assumption) (by assumption)) | exact zz_lk3 (hd _ _ (by decide) (by decide) (by decide)) (zz_lk3 (hd _ _ (by decide) (by decide) (by decide)) (by assumption)) | (simp only [zz_up]; simp_all; done)) rfl rfl rfl rfl rfl rfl dX2_count_118 ⟨Nat.le_of_ble_eq_true rfl, Nat.le_of_ble_eq_true rfl⟩ (fun v hz hp => ?_)
    obtain ⟨rfl, ez⟩ := hp
    obtain rfl := ez.symm
    refine zz_iret C dX2_count_121 rfl rfl ?_
    refine ⟨?_, rfl⟩
    unfold op_count
    first
    | (rw [if_pos ho])
    | (rw [hn5, ek]; rfl)
  · refine zz_tableIn (off := 121) (tgt := 122) C dX2_count_1 (by rw [ek]; decide) (by rw [ek]; decide) (by rw [ek]; decide) (by decide) ?_
    first | refine zz_aload_n C dX2_count_122 rfl ?_ | refine zz_aload_nN C dX2_count_122 rfl ?_
    refine zz_get C rfl (by first | assumption | exact zz_us | exact zz_lk1 (by assumption) (by assumption) | exact zz_lk3 (hd _ _ (by decide) (by decide) (by decide)) (by assumption) | exact zz_uf (by assumption) (by assumption) | exact zz_lk3 (zz_xi (by assumption) (by assumption)) (zz_lk1 (by assumption) (by assumption)) | exact zz_lk3 (hd _ _ (by decide) (by decide) (by decide)) (zz_lk3 (hd _ _ (by decide) (by decide) (by decide)) (by assumption)) | (simp only [zz_up]; simp_all; done)) rfl in_X2 0 rfl q1230 (fun _ h => h) (by first | rfl | assumption) dX2_count_123 ?_
    refine zz_bipush (v := nI 9) C dX2_count_126 (by decide) ?_
    refine zz_iload_n C dX2_count_128 rfl ?_
    refine zz_iadd C dX2_count_129 ?_
    refine zz_bipush (v := nI 8) C dX2_count_130 (by decide) ?_
    refine zz_isub C dX2_count_132 ?_
    refine zz_iald C (by first | assumption | exact zz_us | exact zz_lk1 (by assumption) (by assumption) | exact zz_lk3 (hd _ _ (by decide) (by decide) (by decide)) (by assumption) | exact zz_uf (by assumption) (by assumption) | exact zz_lk3 (zz_xi (by assumption) (by assumption)) (zz_lk1 (by assumption) (by assumption)) | exact zz_lk3 (hd _ _ (by decide) (by decide) (by decide)) (zz_lk3 (hd _ _ (by decide) (by decide) (by decide)) (by assumption)) | (simp only [zz_up]; simp_all; done)) (by rw [ek, nI_add]; exact pk_sub (b := 8) (by decide)) (by omega) (by omega) dX2_count_133 ?_
    refine zz_iret C dX2_count_134 rfl rfl ?_
    refine ⟨?_, rfl⟩
    unfold op_count
    first
    | (rw [if_pos ho])
    | (rw [hn5, ek]; rfl)
  · refine zz_tableIn (off := 121) (tgt := 122) C dX2_count_1 (by rw [ek]; decide) (by rw [ek]; decide) (by rw [ek]; decide) (by decide) ?_
    first | refine zz_aload_n C dX2_count_122 rfl ?_ | refine zz_aload_nN C dX2_count_122 rfl ?_
    refine zz_get C rfl (by first | assumption | exact zz_us | exact zz_lk1 (by assumption) (by assumption) | exact zz_lk3 (hd _ _ (by decide) (by decide) (by decide)) (by assumption) | exact zz_uf (by assumption) (by assumption) | exact zz_lk3 (zz_xi (by assumption) (by assumption)) (zz_lk1 (by assumption) (by assumption)) | exact zz_lk3 (hd _ _ (by decide) (by decide) (by decide)) (zz_lk3 (hd _ _ (by decide) (by decide) (by decide)) (by assumption)) | (simp only [zz_up]; simp_all; done)) rfl in_X2 0 rfl q1230 (fun _ h => h) (by first | rfl | assumption) dX2_count_123 ?_
    refine zz_bipush (v := nI 9) C dX2_count_126 (by decide) ?_
    refine zz_iload_n C dX2_count_128 rfl ?_
    refine zz_iadd C dX2_count_129 ?_
    refine zz_bipush (v := nI 8) C dX2_count_130 (by decide) ?_
    refine zz_isub C dX2_count_132 ?_
    refine zz_iald C (by first | assumption | exact zz_us | exact zz_lk1 (by assumption) (by assumption) | exact zz_lk3 (hd _ _ (by decide) (by decide) (by decide)) (by assumption) | exact zz_uf (by assumption) (by assumption) | exact zz_lk3 (zz_xi (by assumption) (by assumption)) (zz_lk1 (by assumption) (by assumption)) | exact zz_lk3 (hd _ _ (by decide) (by decide) (by decide)) (zz_lk3 (hd _ _ (by decide) (by decide) (by decide)) (by assumption)) | (simp only [zz_up]; simp_all; done)) (by rw [ek, nI_add]; exact pk_sub (b := 8) (by decide)) (by omega) (by omega) dX2_count_133 ?_
    refine zz_iret C dX2_count_134 rfl rfl ?_
    refine ⟨?_, rfl⟩
    unfold op_count
    first
    | (rw [if_pos ho])
    | (rw [hn5, ek]; rfl)
  · refine zz_tableIn (off := 121) (tgt := 122) C dX2_count_1 (by rw [ek]; decide) (by rw [ek]; decide) (by rw [ek]; decide) (by decide) ?_
    first | refine zz_aload_n C dX2_count_122 rfl ?_ | refine zz_aload_nN C dX2_count_122 rfl ?_
    refine zz_get C rfl (by first | assumption | exact zz_us | exact zz_lk1 (by assumption) (by assumption) | exact zz_lk3 (hd _ _ (by decide) (by decide) (by decide)) (by assumption) | exact zz_uf (by assumption) (by assumption) | exact zz_lk3 (zz_xi (by assumption) (by assumption)) (zz_lk1 (by assumption) (by assumption)) | exact zz_lk3 (hd _ _ (by decide) (by decide) (by decide)) (zz_lk3 (hd _ _ (by decide) (by decide) (by decide)) (by assumption)) | (simp only [zz_up]; simp_all; done)) rfl in_X2 0 rfl q1230 (fun _ h => h) (by first | rfl | assumption) dX2_count_123 ?_
    refine zz_bipush (v := nI 9) C dX2_count_126 (by decide) ?_
    refine zz_iload_n C dX2_count_128 rfl ?_
    refine zz_iadd C dX2_count_129 ?_
    refine zz_bipush (v := nI 8) C dX2_count_130 (by decide) ?_
    refine zz_isub C dX2_count_132 ?_
    refine zz_iald C (by first | assumption | exact zz_us | exact zz_lk1 (by assumption) (by assumption) | exact zz_lk3 (hd _ _ (by decide) (by decide) (by decide)) (by assumption) | exact zz_uf (by assumption) (by assumption) | exact zz_lk3 (zz_xi (by assumption) (by assumption)) (zz_lk1 (by assumption) (by assumption)) | exact zz_lk3 (hd _ _ (by decide) (by decide) (by decide)) (zz_lk3 (hd _ _ (by decide) (by decide) (by decide)) (by assumption)) | (simp only [zz_up]; simp_all; done)) (by rw [ek, nI_add]; exact pk_sub (b := 8) (by decide)) (by omega) (by omega) dX2_count_133 ?_
    refine zz_iret C dX2_count_134 rfl rfl ?_
    refine ⟨?_, rfl⟩
    unfold op_count
    first
    | (rw [if_pos ho])
    | (rw [hn5, ek]; rfl)
  · refine zz_tableIn (off := 134) (tgt := 135) C dX2_count_1 (by rw [ek]; decide) (by rw [ek]; decide) (by rw [ek]; decide) (by decide) ?_
    first | refine zz_aload_n C dX2_count_135 rfl ?_ | refine zz_aload_nN C dX2_count_135 rfl ?_
    refine zz_get C rfl (by first | assumption | exact zz_us | exact zz_lk1 (by assumption) (by assumption) | exact zz_lk3 (hd _ _ (by decide) (by decide) (by decide)) (by assumption) | exact zz_uf (by assumption) (by assumption) | exact zz_lk3 (zz_xi (by assumption) (by assumption)) (zz_lk1 (by assumption) (by assumption)) | exact zz_lk3 (hd _ _ (by decide) (by decide) (by decide)) (zz_lk3 (hd _ _ (by decide) (by decide) (by decide)) (by assumption)) | (simp only [zz_up]; simp_all; done)) rfl in_X2 0 rfl q1230 (fun _ h => h) (by first | rfl | assumption) dX2_count_136 ?_
    refine zz_iconst (v := nI 1) C dX2_count_139 (by decide) ?_
    refine zz_iald C (by first | assumption | exact zz_us | exact zz_lk1 (by assumption) (by assumption) | exact zz_lk3 (hd _ _ (by decide) (by decide) (by decide)) (by assumption) | exact zz_uf (by assumption) (by assumption) | exact zz_lk3 (zz_xi (by assumption) (by assumption)) (zz_lk1 (by assumption) (by assumption)) | exact zz_lk3 (hd _ _ (by decide) (by decide) (by decide)) (zz_lk3 (hd _ _ (by decide) (by decide) (by decide)) (by assumption)) | (simp only [zz_up]; simp_all; done)) rfl (by omega) (by omega) dX2_count_140 ?_
    refine zz_iret C dX2_count_141 rfl rfl ?_
    refine ⟨?_, rfl⟩
    unfold op_count
    first
    | (rw [if_pos ho])
    | (rw [hn5, ek]; rfl)
  · refine zz_tableIn (off := 141) (tgt := 142) C dX2_count_1 (by rw [ek]; decide) (by rw [ek]; decide) (by rw [ek]; decide) (by decide) ?_
    first | refine zz_aload_n C dX2_count_142 rfl ?_ | refine zz_aload_nN C dX2_count_142 rfl ?_
    refine zz_get C rfl (by first | assumption | exact zz_us | exact zz_lk1 (by assumption) (by assumption) | exact zz_lk3 (hd _ _ (by decide) (by decide) (by decide)) (by assumption) | exact zz_uf (by assumption) (by assumption) | exact zz_lk3 (zz_xi (by assumption) (by assumption)) (zz_lk1 (by assumption) (by assumption)) | exact zz_lk3 (hd _ _ (by decide) (by decide) (by decide)) (zz_lk3 (hd _ _ (by decide) (by decide) (by decide)) (by assumption)) | (simp only [zz_up]; simp_all; done)) rfl in_X2 0 rfl q1230 (fun _ h => h) (by first | rfl | assumption) dX2_count_143 ?_
    refine zz_iconst (v := nI 0) C dX2_count_146 (by decide) ?_
    refine zz_iald C (by first | assumption | exact zz_us | exact zz_lk1 (by assumption) (by assumption) | exact zz_lk3 (hd _ _ (by decide) (by decide) (by decide)) (by assumption) | exact zz_uf (by assumption) (by assumption) | exact zz_lk3 (zz_xi (by assumption) (by assumption)) (zz_lk1 (by assumption) (by assumption)) | exact zz_lk3 (hd _ _ (by decide) (by decide) (by decide)) (zz_lk3 (hd _ _ (by decide) (by decide) (by decide)) (by assumption)) | (simp only [zz_up]; simp_all; done)) rfl (by omega) (by omega) dX2_count_147 ?_
    refine zz_iret C dX2_count_148 rfl rfl ?_
    refine ⟨?_, rfl⟩
    unfold op_count
    first
    | (rw [if_pos ho])
    | (rw [hn5, ek]; rfl)
  · refine zz_tableIn (off := 148) (tgt := 149) C dX2_count_1 (by rw [ek]; decide) (by rw [ek]; decide) (by rw [ek]; decide) (by decide) ?_
    first | refine zz_aload_n C dX2_count_149 rfl ?_ | refine zz_aload_nN C dX2_count_149 rfl ?_
    refine zz_get C rfl (by first | assumption | exact zz_us | exact zz_lk1 (by assumption) (by assumption) | exact zz_lk3 (hd _ _ (by decide) (by decide) (by decide)) (by assumption) | exact zz_uf (by assumption) (by assumption) | exact zz_lk3 (zz_xi (by assumption) (by assumption)) (zz_lk1 (by assumption) (by assumption)) | exact zz_lk3 (hd _ _ (by decide) (by decide) (by decide)) (zz_lk3 (hd _ _ (by decide) (by decide) (by decide)) (by assumption)) | (simp only [zz_up]; simp_all; done)) rfl in_X2 0 rfl q1230 (fun _ h => h) (by first | rfl | assumption) dX2_count_150 ?_
    refine zz_iconst (v := nI 2) C dX2_count_153 (by decide) ?_
    refine zz_iald C (by first | assumption | exact zz_us | exact zz_lk1 (by assumption) (by assumption) | exact zz_lk3 (hd _ _ (by decide) (by decide) (by decide)) (by assumption) | exact zz_uf (by assumption) (by assumption) | exact zz_lk3 (zz_xi (by assumption) (by assumption)) (zz_lk1 (by assumption) (by assumption)) | exact zz_lk3 (hd _ _ (by decide) (by decide) (by decide)) (zz_lk3 (hd _ _ (by decide) (by decide) (by decide)) (by assumption)) | (simp only [zz_up]; simp_all; done)) rfl (by omega) (by omega) dX2_count_154 ?_
    refine zz_bipush (v := 100) C dX2_count_155 (by decide) ?_
    refine zz_iadd C dX2_count_157 ?_
    refine zz_iret C dX2_count_158 rfl rfl ?_
    refine ⟨?_, rfl⟩
    unfold op_count
    first
    | (rw [if_pos ho])
    | (rw [hn5, ek]; rfl)
  · refine zz_tableIn (off := 158) (tgt := 159) C dX2_count_1 (by rw [ek]; decide) (by rw [ek]; decide) (by rw [ek]; decide) (by decide) ?_
    first | refine zz_aload_n C dX2_count_159 rfl ?_ | refine zz_aload_nN C dX2_count_159 rfl ?_
    refine zz_get C rfl (by first | assumption | exact zz_us | exact zz_lk1 (by assumption) (by assumption) | exact zz_lk3 (hd _ _ (by decide) (by decide) (by decide)) (by assumption) | exact zz_uf (by assumption) (by assumption) | exact zz_lk3 (zz_xi (by assumption) (by assumption)) (zz_lk1 (by assumption) (by assumption)) | exact zz_lk3 (hd _ _ (by decide) (by decide) (by decide)) (zz_lk3 (hd _ _ (by decide) (by decide) (by decide)) (by assumption)) | (simp only [zz_up]; simp_all; done)) rfl in_X2 0 rfl q1230 (fun _ h => h) (by first | rfl | assumption) dX2_count_160 ?_
    refine zz_iconst (v := nI 3) C dX2_count_163 (by decide) ?_
    refine zz_iald C (by first | assumption | exact zz_us | exact zz_lk1 (by assumption) (by assumption) | exact zz_lk3 (hd _ _ (by decide) (by decide) (by decide)) (by assumption) | exact zz_uf (by assumption) (by assumption) | exact zz_lk3 (zz_xi (by assumption) (by assumption)) (zz_lk1 (by assumption) (by assumption)) | exact zz_lk3 (hd _ _ (by decide) (by decide) (by decide)) (zz_lk3 (hd _ _ (by decide) (by decide) (by decide)) (by assumption)) | (simp only [zz_up]; simp_all; done)) rfl (by omega) (by omega) dX2_count_164 ?_
    refine zz_iret C dX2_count_165 rfl rfl ?_
    refine ⟨?_, rfl⟩
    unfold op_count
    first
    | (rw [if_pos ho])
    | (rw [hn5, ek]; rfl)
  · refine zz_tableIn (off := 165) (tgt := 166) C dX2_count_1 (by rw [ek]; decide) (by rw [ek]; decide) (by rw [ek]; decide) (by decide) ?_
    first | refine zz_aload_n C dX2_count_166 rfl ?_ | refine zz_aload_nN C dX2_count_166 rfl ?_
    refine zz_get C rfl (by first | assumption | exact zz_us | exact zz_lk1 (by assumption) (by assumption) | exact zz_lk3 (hd _ _ (by decide) (by decide) (by decide)) (by assumption) | exact zz_uf (by assumption) (by assumption) | exact zz_lk3 (zz_xi (by assumption) (by assumption)) (zz_lk1 (by assumption) (by assumption)) | exact zz_lk3 (hd _ _ (by decide) (by decide) (by decide)) (zz_lk3 (hd _ _ (by decide) (by decide) (by decide)) (by assumption)) | (simp only [zz_up]; simp_all; done)) rfl in_X2 7 rfl q1237 (fun _ h => h) (by first | rfl | assumption) dX2_count_167 ?_
    refine zz_iret C dX2_count_170 rfl rfl ?_
    refine ⟨?_, rfl⟩
    unfold op_count
    first
    | (rw [if_pos ho])
    | (rw [hn5, ek]; rfl)
  · refine zz_tableIn (off := 170) (tgt := 171) C dX2_count_1 (by rw [ek]; decide) (by rw [ek]; decide) (by rw [ek]; decide) (by decide) ?_
    first | refine zz_aload_n C dX2_count_171 rfl ?_ | refine zz_aload_nN C dX2_count_171 rfl ?_
    refine zz_get C rfl (by first | assumption | exact zz_us | exact zz_lk1 (by assumption) (by assumption) | exact zz_lk3 (hd _ _ (by decide) (by decide) (by decide)) (by assumption) | exact zz_uf (by assumption) (by assumption) | exact zz_lk3 (zz_xi (by assumption) (by assumption)) (zz_lk1 (by assumption) (by assumption)) | exact zz_lk3 (hd _ _ (by decide) (by decide) (by decide)) (zz_lk3 (hd _ _ (by decide) (by decide) (by decide)) (by assumption)) | (simp only [zz_up]; simp_all; done)) rfl in_X2 3 rfl q1233 (fun _ h => h) (by first | rfl | assumption) dX2_count_172 ?_
    refine zz_iret C dX2_count_175 rfl rfl ?_
    refine ⟨?_, rfl⟩
    unfold op_count
    first
    | (rw [if_pos ho])
    | (rw [hn5, ek]; rfl)
  · refine zz_tableOut (tgt := 176) C dX2_count_1 ho (by decide) ?_
    refine zz_bipush (v := (-2)) C dX2_count_176 (by decide) ?_
    refine zz_iret C dX2_count_178 rfl rfl ?_
    refine ⟨?_, rfl⟩
    unfold op_count
    first
    | (rw [if_pos ho])
    | (rw [hn5, ek]; rfl)

