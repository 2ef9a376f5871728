/-! the twin: set, shelter, takeBack, limits, unload, wipe, undo, save, restore -/
theorem ct_X2_set {l : Launch} {D : va_G} {b0 : Nat} {h : zz_H} {x : Nat} {ad : Nat → Nat} {a hi : Nat → Int32} {kp : Nat} {sl sv pd : Nat → Int32} {len : Nat} (hkp : kp ≤ 6) {v0 v1 : Int32} (hS : tw_S D h x ad a hi kp sl sv pd len)  : zz_Ct l D b0 yX2_set cX2_set 4 (some .int) 2 44 0 0 [.ref x, .int v0, .int v1] h (fun v h' => ∃ (hi' : Nat → Int32) (kp' : Nat), v = some (.int (op_set a v0 v1).2.1) ∧ tw_S D h' x ad (op_set a v0 v1).2.2 hi' kp' sl sv pd len ∧ tw_F x ad h h' ∧ qa_rc (op_set a v0 v1).1 hi kp a hi' kp') := by
  refine zz_Ct.of zy_X2_set.1 rfl ?_
  intro p e s m below meth c C
  obtain ⟨ah, so, pos, wr, to, hX⟩ := hS
  have hM := hX.M
  obtain ⟨hx, h0, h1a, h2a, h3a, h4a, h5a, h6, h7, hd⟩ := id hX
  refine zz_joinI (pcJ := 64) (zz_b (qa_setok v0 v1)) ?_ ?_
  · rintro z64 rfl
    refine zz_istore_n C dX2_set_64 (by decide) ?_
    refine zz_iload_n C dX2_set_65 rfl ?_
    first | refine zz_ifb_eq (tgt := 81) C dX2_set_66 (by decide) (fun c66 => ?_) (fun c66 => ?_) | refine zz_if_eq (tgt := 81) C dX2_set_66 (by decide) (fun c66 => ?_) (fun c66 => ?_)
    · refine zz_bipush (v := (-2)) C dX2_set_81 (by decide) ?_
      refine zz_iret C dX2_set_83 rfl rfl ?_
      first
      | (have eo : op_set a v0 v1 = (false, -2, a) := if_neg (by rw [‹qa_setok v0 v1 = false›]; decide)
         rw [eo]
         exact ⟨hi, kp, rfl, hX.S, tw_F.rf, qa_rc_f rfl⟩)
      | (have eo : op_set a v0 v1 = (true, a k + 100, upd a k v1) := by unfold op_set; rw [if_pos ‹_›, ekn]
         rw [eo]
         exact ⟨hi', kp', rfl, hX1.S, hF1, qa_rc_t rfl hR1⟩)
    · obtain ⟨k, hk, ek⟩ := qa_setok_ix c66
      have ekn : v0.toNatClampNeg = k := by rw [ek]; exact nI_clamp (by omega)
      first | refine zz_aload_n C dX2_set_69 rfl ?_ | refine zz_aload_nN C dX2_set_69 rfl ?_
      refine zz_iload_n C dX2_set_70 rfl ?_
      refine zz_iload_n C dX2_set_71 rfl ?_
      refine zz_callV C zy_X2_lays (ct_X2_lays hkp k ek (by omega) hX) rfl q1275 (by first | assumption | exact zz_us | exact zz_lk1 (by assumption) (by assumption) | exact zz_lk3 (hd _ _ (by decide) (by decide) (by decide)) (by assumption) | exact zz_uf (by assumption) (by assumption) | exact zz_lk3 (zz_xi (by assumption) (by assumption)) (zz_lk1 (by assumption) (by assumption)) | exact zz_lk3 (hd _ _ (by decide) (by decide) (by decide)) (zz_lk3 (hd _ _ (by decide) (by decide) (by decide)) (by assumption)) | (simp only [zz_up]; simp_all; done)) rfl rfl rfl rfl rfl rfl dX2_set_72 ⟨Nat.le_of_ble_eq_true rfl, Nat.le_of_ble_eq_true rfl⟩ (fun v hz hp => ?_)
      obtain ⟨ah', hi', kp', rfl, hX1, hF1, hR1⟩ := hp
      clear hx h0 h1a h2a h3a h4a h5a h6 h7
      obtain ⟨hx, h0, h1a, h2a, h3a, h4a, h5a, h6, h7, -⟩ := id hX1
      have hM1 := hX1.M
      refine zz_bipush (v := 100) C dX2_set_75 (by decide) ?_
      refine zz_iadd C dX2_set_77 ?_
      refine zz_goto (tgt := 83) C dX2_set_78 (by decide) ?_
      refine zz_iret C dX2_set_83 rfl rfl ?_
      first
      | (have eo : op_set a v0 v1 = (false, -2, a) := if_neg (by rw [‹qa_setok v0 v1 = false›]; decide)
         rw [eo]
         exact ⟨hi, kp, rfl, hX.S, tw_F.rf, qa_rc_f rfl⟩)
      | (have eo : op_set a v0 v1 = (true, a k + 100, upd a k v1) := by unfold op_set; rw [if_pos ‹_›, ekn]
         rw [eo]
         exact ⟨hi', kp', rfl, hX1.S, hF1, qa_rc_t rfl hR1⟩)
  · intro J64
    refine zz_iload_n C dX2_set_0 rfl ?_
    first | refine zz_ifb_ne (tgt := 14) C dX2_set_1 (by decide) (fun c1 => ?_) (fun c1 => ?_) | refine zz_if_ne (tgt := 14) C dX2_set_1 (by decide) (fun c1 => ?_) (fun c1 => ?_)
    · refine zz_iload_n C dX2_set_14 rfl ?_
      refine zz_iconst (v := 1) C dX2_set_15 (by decide) ?_
      refine zz_icmp_ne (tgt := 29) C dX2_set_16 (by decide) (fun c16 => ?_) (fun c16 => ?_)
      · refine zz_iload_n C dX2_set_29 rfl ?_
        refine zz_iconst (v := 2) C dX2_set_30 (by decide) ?_
        refine zz_icmp_ne (tgt := 44) C dX2_set_31 (by decide) (fun c31 => ?_) (fun c31 => ?_)
        · refine zz_iload_n C dX2_set_44 rfl ?_
          refine zz_iconst (v := 3) C dX2_set_45 (by decide) ?_
          refine zz_icmp_ne (tgt := 63) C dX2_set_46 (by decide) (fun c46 => ?_) (fun c46 => ?_)
          · refine zz_iconst (v := 0) C dX2_set_63 (by decide) ?_
            exact J64 _ (by first | (simp_all [qa_setok, zz_b]; done))
          · refine zz_iload_n C dX2_set_49 rfl ?_
            refine zz_iconst (v := 0) C dX2_set_50 (by decide) ?_
            refine zz_bipush (v := 30) C dX2_set_51 (by decide) ?_
            refine zz_callS C zy_X2_in (ct_X2_in) rfl q1272 rfl rfl rfl rfl rfl dX2_set_53 ⟨Nat.le_of_ble_eq_true rfl, Nat.le_of_ble_eq_true rfl⟩ (fun v hz hp => ?_)
            obtain ⟨rfl, ez⟩ := hp
            obtain rfl := ez.symm
            first | refine zz_ifb_eq (tgt := 63) C dX2_set_56 (by decide) (fun c56 => ?_) (fun c56 => ?_) | refine zz_if_eq (tgt := 63) C dX2_set_56 (by decide) (fun c56 => ?_) (fun c56 => ?_)
            · refine zz_iconst (v := 0) C dX2_set_63 (by decide) ?_
              exact J64 _ (by first | (simp_all [qa_setok, zz_b]; done))
            · refine zz_iconst (v := 1) C dX2_set_59 (by decide) ?_
              refine zz_goto (tgt := 64) C dX2_set_60 (by decide) ?_
              exact J64 _ (by first | (simp_all [qa_setok, zz_b]; done))
        · refine zz_iload_n C dX2_set_34 rfl ?_
          refine zz_bipush (v := (-20)) C dX2_set_35 (by decide) ?_
          refine zz_iconst (v := 0) C dX2_set_37 (by decide) ?_
          refine zz_callS C zy_X2_in (ct_X2_in) rfl q1272 rfl rfl rfl rfl rfl dX2_set_38 ⟨Nat.le_of_ble_eq_true rfl, Nat.le_of_ble_eq_true rfl⟩ (fun v hz hp => ?_)
          obtain ⟨rfl, ez⟩ := hp
          obtain rfl := ez.symm
          refine zz_goto (tgt := 64) C dX2_set_41 (by decide) ?_
          exact J64 _ (by first | (simp_all [qa_setok, zz_b]; done))
      · refine zz_iload_n C dX2_set_19 rfl ?_
        refine zz_iconst (v := 1) C dX2_set_20 (by decide) ?_
        refine zz_bipush (v := 99) C dX2_set_21 (by decide) ?_
        refine zz_callS C zy_X2_in (ct_X2_in) rfl q1272 rfl rfl rfl rfl rfl dX2_set_23 ⟨Nat.le_of_ble_eq_true rfl, Nat.le_of_ble_eq_true rfl⟩ (fun v hz hp => ?_)
        obtain ⟨rfl, ez⟩ := hp
        obtain rfl := ez.symm
        refine zz_goto (tgt := 64) C dX2_set_26 (by decide) ?_
        exact J64 _ (by first | (simp_all [qa_setok, zz_b]; done))
    · refine zz_iload_n C dX2_set_4 rfl ?_
      refine zz_iconst (v := 0) C dX2_set_5 (by decide) ?_
      refine zz_bipush (v := 9) C dX2_set_6 (by decide) ?_
      refine zz_callS C zy_X2_in (ct_X2_in) rfl q1272 rfl rfl rfl rfl rfl dX2_set_8 ⟨Nat.le_of_ble_eq_true rfl, Nat.le_of_ble_eq_true rfl⟩ (fun v hz hp => ?_)
      obtain ⟨rfl, ez⟩ := hp
      obtain rfl := ez.symm
      refine zz_goto (tgt := 64) C dX2_set_11 (by decide) ?_
      exact J64 _ (by first | (simp_all [qa_setok, zz_b]; done))

theorem ct_X2_shelter {l : Launch} {D : va_G} {b0 : Nat} {h : zz_H} {x : Nat} {ad : Nat → Nat} {a hi : Nat → Int32} {kp : Nat} {sl sv pd : Nat → Int32} {len : Nat} (hkp : kp ≤ 6) {v0 : Int32} (nb : Nat) (h5 : a 5 = nI nb) (hnb : nb ≤ 24) (hS : tw_S D h x ad a hi kp sl sv pd len)  : zz_Ct l D b0 yX2_shelter cX2_shelter 4 (some .int) 3 65 0 0 [.ref x, .int v0] h (fun v h' => ∃ (hi' : Nat → Int32) (kp' : Nat), v = some (.int (op_shelter a v0).2.1) ∧ tw_S D h' x ad (op_shelter a v0).2.2 hi' kp' sl sv pd len ∧ tw_F x ad h h' ∧ qa_rc (op_shelter a v0).1 hi kp a hi' kp') := by
  refine zz_Ct.of zy_X2_shelter.1 rfl ?_
  intro p e s m below meth c C
  obtain ⟨ah, so, pos, wr, to, hX⟩ := hS
  have hM := hX.M
  obtain ⟨hx, h0, h1a, h2a, h3a, h4a, h5a, h6, h7, hd⟩ := id hX
  have hn5 : (a 5).toNatClampNeg = nb := by rw [h5]; exact nI_clamp (by omega)
  first | refine zz_aload_n C dX2_shelter_0 rfl ?_ | refine zz_aload_nN C dX2_shelter_0 rfl ?_
  refine zz_iload_n C dX2_shelter_1 rfl ?_
  refine zz_callV C zy_X2_isBlock (ct_X2_isBlock hM) rfl q1321 (by first | assumption | exact zz_us | exact zz_lk1 (by assumption) (by assumption) | exact zz_lk3 (hd _ _ (by decide) (by decide) (by decide)) (by assumption) | exact zz_uf (by assumption) (by assumption) | exact zz_lk3 (zz_xi (by assumption) (by assumption)) (zz_lk1 (by assumption) (by assumption)) | exact zz_lk3 (hd _ _ (by decide) (by decide) (by decide)) (zz_lk3 (hd _ _ (by decide) (by decide) (by decide)) (by assumption)) | (simp only [zz_up]; simp_all; done)) rfl rfl rfl rfl rfl rfl dX2_shelter_2 ⟨Nat.le_of_ble_eq_true rfl, Nat.le_of_ble_eq_true rfl⟩ (fun v hz hp => ?_)
  obtain ⟨rfl, ez⟩ := hp
  obtain rfl := ez.symm
  first | refine zz_ifb_ne (tgt := 10) C dX2_shelter_5 (by decide) (fun c5 => ?_) (fun c5 => ?_) | refine zz_if_ne (tgt := 10) C dX2_shelter_5 (by decide) (fun c5 => ?_) (fun c5 => ?_)
  · obtain ⟨b, hb, ev⟩ := qa_ix (n := nb) (by omega) (by rw [← h5]; assumption)
    have ebn : v0.toNatClampNeg = b := by rw [ev]; exact nI_clamp (by omega)
    first | refine zz_aload_n C dX2_shelter_10 rfl ?_ | refine zz_aload_nN C dX2_shelter_10 rfl ?_
    refine zz_iload_n C dX2_shelter_11 rfl ?_
    refine zz_callV C zy_X2_isHere (ct_X2_isHere b ev (by omega) hM) rfl q1329 (by first | assumption | exact zz_us | exact zz_lk1 (by assumption) (by assumption) | exact zz_lk3 (hd _ _ (by decide) (by decide) (by decide)) (by assumption) | exact zz_uf (by assumption) (by assumption) | exact zz_lk3 (zz_xi (by assumption) (by assumption)) (zz_lk1 (by assumption) (by assumption)) | exact zz_lk3 (hd _ _ (by decide) (by decide) (by decide)) (zz_lk3 (hd _ _ (by decide) (by decide) (by decide)) (by assumption)) | (simp only [zz_up]; simp_all; done)) rfl rfl rfl rfl rfl rfl dX2_shelter_12 ⟨Nat.le_of_ble_eq_true rfl, Nat.le_of_ble_eq_true rfl⟩ (fun v hz hp => ?_)
    obtain ⟨rfl, ez⟩ := hp
    obtain rfl := ez.symm
    first | refine zz_ifb_ne (tgt := 21) C dX2_shelter_15 (by decide) (fun c15 => ?_) (fun c15 => ?_) | refine zz_if_ne (tgt := 21) C dX2_shelter_15 (by decide) (fun c15 => ?_) (fun c15 => ?_)
    · first | refine zz_aload_n C dX2_shelter_21 rfl ?_ | refine zz_aload_nN C dX2_shelter_21 rfl ?_
      refine zz_iload_n C dX2_shelter_22 rfl ?_
      refine zz_iconst (v := 1) C dX2_shelter_23 (by decide) ?_
      refine zz_callV C zy_X2_isAt (ct_X2_isAt b ev (by omega) hM) rfl q1333 (by first | assumption | exact zz_us | exact zz_lk1 (by assumption) (by assumption) | exact zz_lk3 (hd _ _ (by decide) (by decide) (by decide)) (by assumption) | exact zz_uf (by assumption) (by assumption) | exact zz_lk3 (zz_xi (by assumption) (by assumption)) (zz_lk1 (by assumption) (by assumption)) | exact zz_lk3 (hd _ _ (by decide) (by decide) (by decide)) (zz_lk3 (hd _ _ (by decide) (by decide) (by decide)) (by assumption)) | (simp only [zz_up]; simp_all; done)) rfl rfl rfl rfl rfl rfl dX2_shelter_24 ⟨Nat.le_of_ble_eq_true rfl, Nat.le_of_ble_eq_true rfl⟩ (fun v hz hp => ?_)
      obtain ⟨rfl, ez⟩ := hp
      obtain rfl := ez.symm
      refine zz_istore_n C dX2_shelter_27 (by decide) ?_
      refine zz_iload_n C dX2_shelter_28 rfl ?_
      first | refine zz_ifb_ne (tgt := 43) C dX2_shelter_29 (by decide) (fun c29 => ?_) (fun c29 => ?_) | refine zz_if_ne (tgt := 43) C dX2_shelter_29 (by decide) (fun c29 => ?_) (fun c29 => ?_)
      · first | refine zz_aload_n C dX2_shelter_43 rfl ?_ | refine zz_aload_nN C dX2_shelter_43 rfl ?_
        refine zz_iload_n C dX2_shelter_44 rfl ?_
        refine zz_iconst (v := nI 4) C dX2_shelter_45 (by decide) ?_
        refine zz_callS C zy_X2_at (ct_X2_at b 4 ev rfl) rfl q1310 rfl rfl rfl rfl rfl dX2_shelter_46 ⟨Nat.le_of_ble_eq_true rfl, Nat.le_of_ble_eq_true rfl⟩ (fun v hz hp => ?_)
        obtain ⟨rfl, ez⟩ := hp
        obtain rfl := ez.symm
        refine zz_joinI (pcJ := 58) (qa_flip a b) ?_ ?_
        · rintro z58 rfl
          refine zz_callV C zy_X2_lays (ct_X2_lays hkp (12 + 10 * b + 4) rfl (by omega) hX) rfl q1275 (by first | assumption | exact zz_us | exact zz_lk1 (by assumption) (by assumption) | exact zz_lk3 (hd _ _ (by decide) (by decide) (by decide)) (by assumption) | exact zz_uf (by assumption) (by assumption) | exact zz_lk3 (zz_xi (by assumption) (by assumption)) (zz_lk1 (by assumption) (by assumption)) | exact zz_lk3 (hd _ _ (by decide) (by decide) (by decide)) (zz_lk3 (hd _ _ (by decide) (by decide) (by decide)) (by assumption)) | (simp only [zz_up]; simp_all; done)) rfl rfl rfl rfl rfl rfl dX2_shelter_58 ⟨Nat.le_of_ble_eq_true rfl, Nat.le_of_ble_eq_true rfl⟩ (fun v hz hp => ?_)
          obtain ⟨ah', hi', kp', rfl, hX1, hF1, hR1⟩ := hp
          clear hx h0 h1a h2a h3a h4a h5a h6 h7
          obtain ⟨hx, h0, h1a, h2a, h3a, h4a, h5a, h6, h7, -⟩ := id hX1
          have hM1 := hX1.M
          refine zz_istore_n C dX2_shelter_61 (by decide) ?_
          refine zz_iload_n C dX2_shelter_62 rfl ?_
          first | refine zz_ifb_eq (tgt := 70) C dX2_shelter_63 (by decide) (fun c63 => ?_) (fun c63 => ?_) | refine zz_if_eq (tgt := 70) C dX2_shelter_63 (by decide) (fun c63 => ?_) (fun c63 => ?_)
          · refine zz_iconst (v := 1) C dX2_shelter_70 (by decide) ?_
            refine zz_iret C dX2_shelter_71 rfl rfl ?_
            first
            | (have eo : op_shelter a v0 = (false, -1, a) := if_pos ‹_›
               rw [eo]
               exact ⟨hi, kp, rfl, hX.S, tw_F.rf, qa_rc_f rfl⟩)
            | (have eo : op_shelter a v0 = (false, -5, a) := by unfold op_shelter; rw [ebn, if_neg (zz_tf ‹_›), if_pos ‹_›]
               rw [eo]
               exact ⟨hi, kp, rfl, hX.S, tw_F.rf, qa_rc_f rfl⟩)
            | (have eo : op_shelter a v0 = (false, -4, a) := by
                 unfold op_shelter; rw [ebn, hn5, if_neg (zz_tf ‹_›), if_neg (zz_tf ‹_›), if_pos ⟨of_decide_eq_false ‹_›, (nI_eq (b := 4) (by have := qa_cnt_le (fun b => decide (a (12 + 10 * b + 4) = 1)) nb; unfold qa_roofs; omega) (by omega)).mp ‹_›⟩]
               rw [eo]
               exact ⟨hi, kp, rfl, hX.S, tw_F.rf, qa_rc_f rfl⟩)
            | (have eo : op_shelter a v0 = (true, qa_flip a b, upd a (12 + 10 * b + 4) (qa_flip a b)) := by
                 unfold op_shelter; rw [ebn, hn5, if_neg (zz_tf ‹_›), if_neg (zz_tf ‹_›), if_neg]
                 rintro ⟨q1, q2⟩
                 first
                 | exact q1 (of_decide_eq_true ‹_›)
                 | exact c37 (by show nI (qa_roofs a nb) = _; rw [q2]; rfl)
               rw [eo]
               exact ⟨hi', kp', congrArg (fun z => some (Value.int z)) (show _ = qa_flip a b from by unfold qa_flip; first | exact (if_pos (of_decide_eq_true ‹_›)).symm | exact (if_neg (of_decide_eq_false ‹_›)).symm), hX1.S, hF1, qa_rc_t rfl hR1⟩)
          · refine zz_iconst (v := 0) C dX2_shelter_66 (by decide) ?_
            refine zz_goto (tgt := 71) C dX2_shelter_67 (by decide) ?_
            refine zz_iret C dX2_shelter_71 rfl rfl ?_
            first
            | (have eo : op_shelter a v0 = (false, -1, a) := if_pos ‹_›
               rw [eo]
               exact ⟨hi, kp, rfl, hX.S, tw_F.rf, qa_rc_f rfl⟩)
            | (have eo : op_shelter a v0 = (false, -5, a) := by unfold op_shelter; rw [ebn, if_neg (zz_tf ‹_›), if_pos ‹_›]
               rw [eo]
               exact ⟨hi, kp, rfl, hX.S, tw_F.rf, qa_rc_f rfl⟩)
            | (have eo : op_shelter a v0 = (false, -4, a) := by
                 unfold op_shelter; rw [ebn, hn5, if_neg (zz_tf ‹_›), if_neg (zz_tf ‹_›), if_pos ⟨of_decide_eq_false ‹_›, (nI_eq (b := 4) (by have := qa_cnt_le (fun b => decide (a (12 + 10 * b + 4) = 1)) nb; unfold qa_roofs; omega) (by omega)).mp ‹_›⟩]
               rw [eo]
               exact ⟨hi, kp, rfl, hX.S, tw_F.rf, qa_rc_f rfl⟩)
            | (have eo : op_shelter a v0 = (true, qa_flip a b, upd a (12 + 10 * b + 4) (qa_flip a b)) := by
                 unfold op_shelter; rw [ebn, hn5, if_neg (zz_tf ‹_›), if_neg (zz_tf ‹_›), if_neg]
                 rintro ⟨q1, q2⟩
                 first
                 | exact q1 (of_decide_eq_true ‹_›)
                 | exact c37 (by show nI (qa_roofs a nb) = _; rw [q2]; rfl)
               rw [eo]
               exact ⟨hi', kp', congrArg (fun z => some (Value.int z)) (show _ = qa_flip a b from by unfold qa_flip; first | exact (if_pos (of_decide_eq_true ‹_›)).symm | exact (if_neg (of_decide_eq_false ‹_›)).symm), hX1.S, hF1, qa_rc_t rfl hR1⟩)
        · intro J58
          refine zz_iload_n C dX2_shelter_49 rfl ?_
          first | refine zz_ifb_eq (tgt := 57) C dX2_shelter_50 (by decide) (fun c50 => ?_) (fun c50 => ?_) | refine zz_if_eq (tgt := 57) C dX2_shelter_50 (by decide) (fun c50 => ?_) (fun c50 => ?_)
          · refine zz_iconst (v := 1) C dX2_shelter_57 (by decide) ?_
            exact J58 _ (by unfold qa_flip; first | exact (if_pos (of_decide_eq_true ‹_›)).symm | exact (if_neg (of_decide_eq_false ‹_›)).symm)
          · refine zz_iconst (v := 0) C dX2_shelter_53 (by decide) ?_
            refine zz_goto (tgt := 58) C dX2_shelter_54 (by decide) ?_
            exact J58 _ (by unfold qa_flip; first | exact (if_pos (of_decide_eq_true ‹_›)).symm | exact (if_neg (of_decide_eq_false ‹_›)).symm)
      · first | refine zz_aload_n C dX2_shelter_32 rfl ?_ | refine zz_aload_nN C dX2_shelter_32 rfl ?_
        refine zz_callV C zy_X2_underRoof (ct_X2_underRoof nb h5 hnb hM) rfl q1341 (by first | assumption | exact zz_us | exact zz_lk1 (by assumption) (by assumption) | exact zz_lk3 (hd _ _ (by decide) (by decide) (by decide)) (by assumption) | exact zz_uf (by assumption) (by assumption) | exact zz_lk3 (zz_xi (by assumption) (by assumption)) (zz_lk1 (by assumption) (by assumption)) | exact zz_lk3 (hd _ _ (by decide) (by decide) (by decide)) (zz_lk3 (hd _ _ (by decide) (by decide) (by decide)) (by assumption)) | (simp only [zz_up]; simp_all; done)) rfl rfl rfl rfl rfl rfl dX2_shelter_33 ⟨Nat.le_of_ble_eq_true rfl, Nat.le_of_ble_eq_true rfl⟩ (fun v hz hp => ?_)
        obtain ⟨rfl, ez⟩ := hp
        obtain rfl := ez.symm
        refine zz_iconst (v := 4) C dX2_shelter_36 (by decide) ?_
        refine zz_icmp_ne (tgt := 43) C dX2_shelter_37 (by decide) (fun c37 => ?_) (fun c37 => ?_)
        · first | refine zz_aload_n C dX2_shelter_43 rfl ?_ | refine zz_aload_nN C dX2_shelter_43 rfl ?_
          refine zz_iload_n C dX2_shelter_44 rfl ?_
          refine zz_iconst (v := nI 4) C dX2_shelter_45 (by decide) ?_
          refine zz_callS C zy_X2_at (ct_X2_at b 4 ev rfl) rfl q1310 rfl rfl rfl rfl rfl dX2_shelter_46 ⟨Nat.le_of_ble_eq_true rfl, Nat.le_of_ble_eq_true rfl⟩ (fun v hz hp => ?_)
          obtain ⟨rfl, ez⟩ := hp
          obtain rfl := ez.symm
          refine zz_joinI (pcJ := 58) (qa_flip a b) ?_ ?_
          · rintro z58 rfl
            refine zz_callV C zy_X2_lays (ct_X2_lays hkp (12 + 10 * b + 4) rfl (by omega) hX) rfl q1275 (by first | assumption | exact zz_us | exact zz_lk1 (by assumption) (by assumption) | exact zz_lk3 (hd _ _ (by decide) (by decide) (by decide)) (by assumption) | exact zz_uf (by assumption) (by assumption) | exact zz_lk3 (zz_xi (by assumption) (by assumption)) (zz_lk1 (by assumption) (by assumption)) | exact zz_lk3 (hd _ _ (by decide) (by decide) (by decide)) (zz_lk3 (hd _ _ (by decide) (by decide) (by decide)) (by assumption)) | (simp only [zz_up]; simp_all; done)) rfl rfl rfl rfl rfl rfl dX2_shelter_58 ⟨Nat.le_of_ble_eq_true rfl, Nat.le_of_ble_eq_true rfl⟩ (fun v hz hp => ?_)
            obtain ⟨ah', hi', kp', rfl, hX1, hF1, hR1⟩ := hp
            clear hx h0 h1a h2a h3a h4a h5a h6 h7
            obtain ⟨hx, h0, h1a, h2a, h3a, h4a, h5a, h6, h7, -⟩ := id hX1
            have hM1 := hX1.M
            refine zz_istore_n C dX2_shelter_61 (by decide) ?_
            refine zz_iload_n C dX2_shelter_62 rfl ?_
            first | refine zz_ifb_eq (tgt := 70) C dX2_shelter_63 (by decide) (fun c63 => ?_) (fun c63 => ?_) | refine zz_if_eq (tgt := 70) C dX2_shelter_63 (by decide) (fun c63 => ?_) (fun c63 => ?_)
            · refine zz_iconst (v := 1) C dX2_shelter_70 (by decide) ?_
              refine zz_iret C dX2_shelter_71 rfl rfl ?_
              first
              | (have eo : op_shelter a v0 = (false, -1, a) := if_pos ‹_›
                 rw [eo]
                 exact ⟨hi, kp, rfl, hX.S, tw_F.rf, qa_rc_f rfl⟩)
              | (have eo : op_shelter a v0 = (false, -5, a) := by unfold op_shelter; rw [ebn, if_neg (zz_tf ‹_›), if_pos ‹_›]
                 rw [eo]
                 exact ⟨hi, kp, rfl, hX.S, tw_F.rf, qa_rc_f rfl⟩)
              | (have eo : op_shelter a v0 = (false, -4, a) := by
                   unfold op_shelter; rw [ebn, hn5, if_neg (zz_tf ‹_›), if_neg (zz_tf ‹_›), if_pos ⟨of_decide_eq_false ‹_›, (nI_eq (b := 4) (by have := qa_cnt_le (fun b => decide (a (12 + 10 * b + 4) = 1)) nb; unfold qa_roofs; omega) (by omega)).mp ‹_›⟩]
                 rw [eo]
                 exact ⟨hi, kp, rfl, hX.S, tw_F.rf, qa_rc_f rfl⟩)
              | (have eo : op_shelter a v0 = (true, qa_flip a b, upd a (12 + 10 * b + 4) (qa_flip a b)) := by
                   unfold op_shelter; rw [ebn, hn5, if_neg (zz_tf ‹_›), if_neg (zz_tf ‹_›), if_neg]
                   rintro ⟨q1, q2⟩
                   first
                   | exact q1 (of_decide_eq_true ‹_›)
                   | exact c37 (by show nI (qa_roofs a nb) = _; rw [q2]; rfl)
                 rw [eo]
                 exact ⟨hi', kp', congrArg (fun z => some (Value.int z)) (show _ = qa_flip a b from by unfold qa_flip; first | exact (if_pos (of_decide_eq_true ‹_›)).symm | exact (if_neg (of_decide_eq_false ‹_›)).symm), hX1.S, hF1, qa_rc_t rfl hR1⟩)
            · refine zz_iconst (v := 0) C dX2_shelter_66 (by decide) ?_
              refine zz_goto (tgt := 71) C dX2_shelter_67 (by decide) ?_
              refine zz_iret C dX2_shelter_71 rfl rfl ?_
              first
              | (have eo : op_shelter a v0 = (false, -1, a) := if_pos ‹_›
                 rw [eo]
                 exact ⟨hi, kp, rfl, hX.S, tw_F.rf, qa_rc_f rfl⟩)
              | (have eo : op_shelter a v0 = (false, -5, a) := by unfold op_shelter; rw [ebn, if_neg (zz_tf ‹_›), if_pos ‹_›]
                 rw [eo]
                 exact ⟨hi, kp, rfl, hX.S, tw_F.rf, qa_rc_f rfl⟩)
              | (have eo : op_shelter a v0 = (false, -4, a) := by
                   unfold op_shelter; rw [ebn, hn5, if_neg (zz_tf ‹_›), if_neg (zz_tf ‹_›), if_pos ⟨of_decide_eq_false ‹_›, (nI_eq (b := 4) (by have := qa_cnt_le (fun b => decide (a (12 + 10 * b + 4) = 1)) nb; unfold qa_roofs; omega) (by omega)).mp ‹_›⟩]
                 rw [eo]
                 exact ⟨hi, kp, rfl, hX.S, tw_F.rf, qa_rc_f rfl⟩)
              | (have eo : op_shelter a v0 = (true, qa_flip a b, upd a (12 + 10 * b + 4) (qa_flip a b)) := by
                   unfold op_shelter; rw [ebn, hn5, if_neg (zz_tf ‹_›), if_neg (zz_tf ‹_›), if_neg]
                   rintro ⟨q1, q2⟩
                   first
                   | exact q1 (of_decide_eq_true ‹_›)
                   | exact c37 (by show nI (qa_roofs a nb) = _; rw [q2]; rfl)
                 rw [eo]
                 exact ⟨hi', kp', congrArg (fun z => some (Value.int z)) (show _ = qa_flip a b from by unfold qa_flip; first | exact (if_pos (of_decide_eq_true ‹_›)).symm | exact (if_neg (of_decide_eq_false ‹_›)).symm), hX1.S, hF1, qa_rc_t rfl hR1⟩)
          · intro J58
            refine zz_iload_n C dX2_shelter_49 rfl ?_
            first | refine zz_ifb_eq (tgt := 57) C dX2_shelter_50 (by decide) (fun c50 => ?_) (fun c50 => ?_) | refine zz_if_eq (tgt := 57) C dX2_shelter_50 (by decide) (fun c50 => ?_) (fun c50 => ?_)
            · refine zz_iconst (v := 1) C dX2_shelter_57 (by decide) ?_
              exact J58 _ (by unfold qa_flip; first | exact (if_pos (of_decide_eq_true ‹_›)).symm | exact (if_neg (of_decide_eq_false ‹_›)).symm)
            · refine zz_iconst (v := 0) C dX2_shelter_53 (by decide) ?_
              refine zz_goto (tgt := 58) C dX2_shelter_54 (by decide) ?_
              exact J58 _ (by unfold qa_flip; first | exact (if_pos (of_decide_eq_true ‹_›)).symm | exact (if_neg (of_decide_eq_false ‹_›)).symm)
        · refine zz_bipush (v := (-4)) C dX2_shelter_40 (by decide) ?_
          refine zz_iret C dX2_shelter_42 rfl rfl ?_
          first
          | (have eo : op_shelter a v0 = (false, -1, a) := if_pos ‹_›
             rw [eo]
             exact ⟨hi, kp, rfl, hX.S, tw_F.rf, qa_rc_f rfl⟩)
          | (have eo : op_shelter a v0 = (false, -5, a) := by unfold op_shelter; rw [ebn, if_neg (zz_tf ‹_›), if_pos ‹_›]
             rw [eo]
             exact ⟨hi, kp, rfl, hX.S, tw_F.rf, qa_rc_f rfl⟩)
          | (have eo : op_shelter a v0 = (false, -4, a) := by
               unfold op_shelter; rw [ebn, hn5, if_neg (zz_tf ‹_›), if_neg (zz_tf ‹_›), if_pos ⟨of_decide_eq_false ‹_›, (nI_eq (b := 4) (by have := qa_cnt_le (fun b => decide (a (12 + 10 * b + 4) = 1)) nb; unfold qa_roofs; omega) (by omega)).mp ‹_›⟩]
             rw [eo]
             exact ⟨hi, kp, rfl, hX.S, tw_F.rf, qa_rc_f rfl⟩)
          | (have eo : op_shelter a v0 = (true, qa_flip a b, upd a (12 + 10 * b + 4) (qa_flip a b)) := by
               unfold op_shelter; rw [ebn, hn5, if_neg (zz_tf ‹_›), if_neg (zz_tf ‹_›), if_neg]
               rintro ⟨q1, q2⟩
               first
               | exact q1 (of_decide_eq_true ‹_›)
               | exact c37 (by show nI (qa_roofs a nb) = _; rw [q2]; rfl)
             rw [eo]
             exact ⟨hi', kp', congrArg (fun z => some (Value.int z)) (show _ = qa_flip a b from by unfold qa_flip; first | exact (if_pos (of_decide_eq_true ‹_›)).symm | exact (if_neg (of_decide_eq_false ‹_›)).symm), hX1.S, hF1, qa_rc_t rfl hR1⟩)
    · refine zz_bipush (v := (-5)) C dX2_shelter_18 (by decide) ?_
      refine zz_iret C dX2_shelter_20 rfl rfl ?_
      first
      | (have eo : op_shelter a v0 = (false, -1, a) := if_pos ‹_›
         rw [eo]
         exact ⟨hi, kp, rfl, hX.S, tw_F.rf, qa_rc_f rfl⟩)
      | (have eo : op_shelter a v0 = (false, -5, a) := by unfold op_shelter; rw [ebn, if_neg (zz_tf ‹_›), if_pos ‹_›]
         rw [eo]
         exact ⟨hi, kp, rfl, hX.S, tw_F.rf, qa_rc_f rfl⟩)
      | (have eo : op_shelter a v0 = (false, -4, a) := by
           unfold op_shelter; rw [ebn, hn5, if_neg (zz_tf ‹_›), if_neg (zz_tf ‹_›), if_pos ⟨of_decide_eq_false ‹_›, (nI_eq (b := 4) (by have := qa_cnt_le (fun b => decide (a (12 + 10 * b + 4) = 1)) nb; unfold qa_roofs; omega) (by omega)).mp ‹_›⟩]
         rw [eo]
         exact ⟨hi, kp, rfl, hX.S, tw_F.rf, qa_rc_f rfl⟩)
      | (have eo : op_shelter a v0 = (true, qa_flip a b, upd a (12 + 10 * b + 4) (qa_flip a b)) := by
           unfold op_shelter; rw [ebn, hn5, if_neg (zz_tf ‹_›), if_neg (zz_tf ‹_›), if_neg]
           rintro ⟨q1, q2⟩
           first
           | exact q1 (of_decide_eq_true ‹_›)
           | exact c37 (by show nI (qa_roofs a nb) = _; rw [q2]; rfl)
         rw [eo]
         exact ⟨hi', kp', congrArg (fun z => some (Value.int z)) (show _ = qa_flip a b from by unfold qa_flip; first | exact (if_pos (of_decide_eq_true ‹_›)).symm | exact (if_neg (of_decide_eq_false ‹_›)).symm), hX1.S, hF1, qa_rc_t rfl hR1⟩)
  · refine zz_iconst (v := (-1)) C dX2_shelter_8 (by decide) ?_
    refine zz_iret C dX2_shelter_9 rfl rfl ?_
    first
    | (have eo : op_shelter a v0 = (false, -1, a) := if_pos ‹_›
       rw [eo]
       exact ⟨hi, kp, rfl, hX.S, tw_F.rf, qa_rc_f rfl⟩)
    | (have eo : op_shelter a v0 = (false, -5, a) := by unfold op_shelter; rw [ebn, if_neg (zz_tf ‹_›), if_pos ‹_›]
       rw [eo]
       exact ⟨hi, kp, rfl, hX.S, tw_F.rf, qa_rc_f rfl⟩)
    | (have eo : op_shelter a v0 = (false, -4, a) := by
         unfold op_shelter; rw [ebn, hn5, if_neg (zz_tf ‹_›), if_neg (zz_tf ‹_›), if_pos ⟨of_decide_eq_false ‹_›, (nI_eq (b := 4) (by have := qa_cnt_le (fun b => decide (a (12 + 10 * b + 4) = 1)) nb; unfold qa_roofs; omega) (by omega)).mp ‹_›⟩]
       rw [eo]
       exact ⟨hi, kp, rfl, hX.S, tw_F.rf, qa_rc_f rfl⟩)
    | (have eo : op_shelter a v0 = (true, qa_flip a b, upd a (12 + 10 * b + 4) (qa_flip a b)) := by
         unfold op_shelter; rw [ebn, hn5, if_neg (zz_tf ‹_›), if_neg (zz_tf ‹_›), if_neg]
         rintro ⟨q1, q2⟩
         first
         | exact q1 (of_decide_eq_true ‹_›)
         | exact c37 (by show nI (qa_roofs a nb) = _; rw [q2]; rfl)
       rw [eo]
       exact ⟨hi', kp', congrArg (fun z => some (Value.int z)) (show _ = qa_flip a b from by unfold qa_flip; first | exact (if_pos (of_decide_eq_true ‹_›)).symm | exact (if_neg (of_decide_eq_false ‹_›)).symm), hX1.S, hF1, qa_rc_t rfl hR1⟩)

theorem ct_X2_takeBack {l : Launch} {D : va_G} {b0 : Nat} {h : zz_H} {x : Nat} {ad : Nat → Nat} {a hi : Nat → Int32} {kp : Nat} {sl sv pd : Nat → Int32} {len : Nat} (hkp : kp ≤ 6) {v0 : Int32} (no : Nat) (h6o : a 6 = nI no) (hno : no ≤ 10) (hob : ∀ o, o < no → a (252 + 6 * o + 3) = 1 → ∃ b : Nat, b < 24 ∧ a (252 + 6 * o + 4) = nI b) (hS : tw_S D h x ad a hi kp sl sv pd len)  : zz_Ct l D b0 yX2_takeBack cX2_takeBack 4 (some .int) 2 44 0 0 [.ref x, .int v0] h (fun v h' => ∃ (hi' : Nat → Int32) (kp' : Nat), v = some (.int (op_takeBack a v0).2.1) ∧ tw_S D h' x ad (op_takeBack a v0).2.2 hi' kp' sl sv pd len ∧ tw_F x ad h h' ∧ qa_rc (op_takeBack a v0).1 hi kp a hi' kp') := by
  refine zz_Ct.of zy_X2_takeBack.1 rfl ?_
  intro p e s m below meth c C
  obtain ⟨ah, so, pos, wr, to, hX⟩ := hS
  have hM := hX.M
  obtain ⟨hx, h0, h1a, h2a, h3a, h4a, h5a, h6, h7, hd⟩ := id hX
  first | refine zz_aload_n C dX2_takeBack_0 rfl ?_ | refine zz_aload_nN C dX2_takeBack_0 rfl ?_
  refine zz_iload_n C dX2_takeBack_1 rfl ?_
  refine zz_callV C zy_X2_isOrder (ct_X2_isOrder hM) rfl q1360 (by first | assumption | exact zz_us | exact zz_lk1 (by assumption) (by assumption) | exact zz_lk3 (hd _ _ (by decide) (by decide) (by decide)) (by assumption) | exact zz_uf (by assumption) (by assumption) | exact zz_lk3 (zz_xi (by assumption) (by assumption)) (zz_lk1 (by assumption) (by assumption)) | exact zz_lk3 (hd _ _ (by decide) (by decide) (by decide)) (zz_lk3 (hd _ _ (by decide) (by decide) (by decide)) (by assumption)) | (simp only [zz_up]; simp_all; done)) rfl rfl rfl rfl rfl rfl dX2_takeBack_2 ⟨Nat.le_of_ble_eq_true rfl, Nat.le_of_ble_eq_true rfl⟩ (fun v hz hp => ?_)
  obtain ⟨rfl, ez⟩ := hp
  obtain rfl := ez.symm
  first | refine zz_ifb_ne (tgt := 10) C dX2_takeBack_5 (by decide) (fun c5 => ?_) (fun c5 => ?_) | refine zz_if_ne (tgt := 10) C dX2_takeBack_5 (by decide) (fun c5 => ?_) (fun c5 => ?_)
  · obtain ⟨o, ho, ev⟩ := qa_ix (n := no) (by omega) (by rw [← h6o]; assumption)
    have eon : v0.toNatClampNeg = o := by rw [ev]; exact nI_clamp (by omega)
    first | refine zz_aload_n C dX2_takeBack_10 rfl ?_ | refine zz_aload_nN C dX2_takeBack_10 rfl ?_
    refine zz_get C rfl (by first | assumption | exact zz_us | exact zz_lk1 (by assumption) (by assumption) | exact zz_lk3 (hd _ _ (by decide) (by decide) (by decide)) (by assumption) | exact zz_uf (by assumption) (by assumption) | exact zz_lk3 (zz_xi (by assumption) (by assumption)) (zz_lk1 (by assumption) (by assumption)) | exact zz_lk3 (hd _ _ (by decide) (by decide) (by decide)) (zz_lk3 (hd _ _ (by decide) (by decide) (by decide)) (by assumption)) | (simp only [zz_up]; simp_all; done)) rfl in_X2 0 rfl q1230 (fun _ h => h) (by first | rfl | assumption) dX2_takeBack_11 ?_
    refine zz_iload_n C dX2_takeBack_14 rfl ?_
    refine zz_iconst (v := nI 3) C dX2_takeBack_15 (by decide) ?_
    refine zz_callS C zy_X2_ofOrderAt (ct_X2_ofOrderAt o 3 ev rfl) rfl q1353 rfl rfl rfl rfl rfl dX2_takeBack_16 ⟨Nat.le_of_ble_eq_true rfl, Nat.le_of_ble_eq_true rfl⟩ (fun v hz hp => ?_)
    obtain ⟨rfl, ez⟩ := hp
    obtain rfl := ez.symm
    refine zz_iald C (by first | assumption | exact zz_us | exact zz_lk1 (by assumption) (by assumption) | exact zz_lk3 (hd _ _ (by decide) (by decide) (by decide)) (by assumption) | exact zz_uf (by assumption) (by assumption) | exact zz_lk3 (zz_xi (by assumption) (by assumption)) (zz_lk1 (by assumption) (by assumption)) | exact zz_lk3 (hd _ _ (by decide) (by decide) (by decide)) (zz_lk3 (hd _ _ (by decide) (by decide) (by decide)) (by assumption)) | (simp only [zz_up]; simp_all; done)) rfl (by omega) (by omega) dX2_takeBack_19 ?_
    refine zz_iconst (v := 1) C dX2_takeBack_20 (by decide) ?_
    refine zz_icmp_eq (tgt := 27) C dX2_takeBack_21 (by decide) (fun c21 => ?_) (fun c21 => ?_)
    · obtain ⟨b, hb, eb⟩ := hob o ho c21
      have ebc : (a (252 + 6 * o + 4)).toNatClampNeg = b := by rw [eb]; exact nI_clamp (by omega)
      have eb2 : upd a (252 + 6 * o + 3) 0 (252 + 6 * o + 4) = a (252 + 6 * o + 4) := up_n (by omega)
      first | refine zz_aload_n C dX2_takeBack_27 rfl ?_ | refine zz_aload_nN C dX2_takeBack_27 rfl ?_
      refine zz_iload_n C dX2_takeBack_28 rfl ?_
      refine zz_iconst (v := nI 3) C dX2_takeBack_29 (by decide) ?_
      refine zz_callS C zy_X2_ofOrderAt (ct_X2_ofOrderAt o 3 ev rfl) rfl q1353 rfl rfl rfl rfl rfl dX2_takeBack_30 ⟨Nat.le_of_ble_eq_true rfl, Nat.le_of_ble_eq_true rfl⟩ (fun v hz hp => ?_)
      obtain ⟨rfl, ez⟩ := hp
      obtain rfl := ez.symm
      refine zz_iconst (v := 0) C dX2_takeBack_33 (by decide) ?_
      refine zz_callV C zy_X2_lays (ct_X2_lays hkp (252 + 6 * o + 3) rfl (by omega) hX) rfl q1275 (by first | assumption | exact zz_us | exact zz_lk1 (by assumption) (by assumption) | exact zz_lk3 (hd _ _ (by decide) (by decide) (by decide)) (by assumption) | exact zz_uf (by assumption) (by assumption) | exact zz_lk3 (zz_xi (by assumption) (by assumption)) (zz_lk1 (by assumption) (by assumption)) | exact zz_lk3 (hd _ _ (by decide) (by decide) (by decide)) (zz_lk3 (hd _ _ (by decide) (by decide) (by decide)) (by assumption)) | (simp only [zz_up]; simp_all; done)) rfl rfl rfl rfl rfl rfl dX2_takeBack_34 ⟨Nat.le_of_ble_eq_true rfl, Nat.le_of_ble_eq_true rfl⟩ (fun v hz hp => ?_)
      obtain ⟨ah', hi', kp', rfl, hX1, hF1, hR1⟩ := hp
      clear hx h0 h1a h2a h3a h4a h5a h6 h7
      obtain ⟨hx, h0, h1a, h2a, h3a, h4a, h5a, h6, h7, -⟩ := id hX1
      have hM1 := hX1.M
      refine zz_istore_n C dX2_takeBack_37 (by decide) ?_
      first | refine zz_aload_n C dX2_takeBack_38 rfl ?_ | refine zz_aload_nN C dX2_takeBack_38 rfl ?_
      refine zz_get C rfl (by first | assumption | exact zz_us | exact zz_lk1 (by assumption) (by assumption) | exact zz_lk3 (hd _ _ (by decide) (by decide) (by decide)) (by assumption) | exact zz_uf (by assumption) (by assumption) | exact zz_lk3 (zz_xi (by assumption) (by assumption)) (zz_lk1 (by assumption) (by assumption)) | exact zz_lk3 (hd _ _ (by decide) (by decide) (by decide)) (zz_lk3 (hd _ _ (by decide) (by decide) (by decide)) (by assumption)) | (simp only [zz_up]; simp_all; done)) rfl in_X2 0 rfl q1230 (fun _ h => h) (by first | rfl | assumption) dX2_takeBack_39 ?_
      refine zz_iload_n C dX2_takeBack_42 rfl ?_
      refine zz_iconst (v := nI 4) C dX2_takeBack_43 (by decide) ?_
      refine zz_callS C zy_X2_ofOrderAt (ct_X2_ofOrderAt o 4 ev rfl) rfl q1353 rfl rfl rfl rfl rfl dX2_takeBack_44 ⟨Nat.le_of_ble_eq_true rfl, Nat.le_of_ble_eq_true rfl⟩ (fun v hz hp => ?_)
      obtain ⟨rfl, ez⟩ := hp
      obtain rfl := ez.symm
      refine zz_iald C (by first | assumption | exact zz_us | exact zz_lk1 (by assumption) (by assumption) | exact zz_lk3 (hd _ _ (by decide) (by decide) (by decide)) (by assumption) | exact zz_uf (by assumption) (by assumption) | exact zz_lk3 (zz_xi (by assumption) (by assumption)) (zz_lk1 (by assumption) (by assumption)) | exact zz_lk3 (hd _ _ (by decide) (by decide) (by decide)) (zz_lk3 (hd _ _ (by decide) (by decide) (by decide)) (by assumption)) | (simp only [zz_up]; simp_all; done)) rfl (by omega) (by omega) dX2_takeBack_47 ?_
      rw [eb2]
      refine zz_istore_n C dX2_takeBack_48 (by decide) ?_
      first | refine zz_aload_n C dX2_takeBack_49 rfl ?_ | refine zz_aload_nN C dX2_takeBack_49 rfl ?_
      refine zz_get C rfl (by first | assumption | exact zz_us | exact zz_lk1 (by assumption) (by assumption) | exact zz_lk3 (hd _ _ (by decide) (by decide) (by decide)) (by assumption) | exact zz_uf (by assumption) (by assumption) | exact zz_lk3 (zz_xi (by assumption) (by assumption)) (zz_lk1 (by assumption) (by assumption)) | exact zz_lk3 (hd _ _ (by decide) (by decide) (by decide)) (zz_lk3 (hd _ _ (by decide) (by decide) (by decide)) (by assumption)) | (simp only [zz_up]; simp_all; done)) rfl in_X2 0 rfl q1230 (fun _ h => h) (by first | rfl | assumption) dX2_takeBack_50 ?_
      refine zz_iload_n C dX2_takeBack_53 rfl ?_
      refine zz_iconst (v := nI 4) C dX2_takeBack_54 (by decide) ?_
      refine zz_callS C zy_X2_ofOrderAt (ct_X2_ofOrderAt o 4 ev rfl) rfl q1353 rfl rfl rfl rfl rfl dX2_takeBack_55 ⟨Nat.le_of_ble_eq_true rfl, Nat.le_of_ble_eq_true rfl⟩ (fun v hz hp => ?_)
      obtain ⟨rfl, ez⟩ := hp
      obtain rfl := ez.symm
      refine zz_bipush (v := (-6)) C dX2_takeBack_58 (by decide) ?_
      first | refine zz_iast2 C rfl (by omega) (by omega) dX2_takeBack_60 ?_ | refine zz_iast C (by first | assumption | exact zz_us | exact zz_lk1 (by assumption) (by assumption) | exact zz_lk3 (hd _ _ (by decide) (by decide) (by decide)) (by assumption) | exact zz_uf (by assumption) (by assumption) | exact zz_lk3 (zz_xi (by assumption) (by assumption)) (zz_lk1 (by assumption) (by assumption)) | exact zz_lk3 (hd _ _ (by decide) (by decide) (by decide)) (zz_lk3 (hd _ _ (by decide) (by decide) (by decide)) (by assumption)) | (simp only [zz_up]; simp_all; done)) rfl (by omega) (by omega) dX2_takeBack_60 ?_
      first | refine zz_aload_n C dX2_takeBack_61 rfl ?_ | refine zz_aload_nN C dX2_takeBack_61 rfl ?_
      refine zz_get C rfl (by first | assumption | exact zz_us | exact zz_lk1 (by assumption) (by assumption) | exact zz_lk3 (hd _ _ (by decide) (by decide) (by decide)) (by assumption) | exact zz_uf (by assumption) (by assumption) | exact zz_lk3 (zz_xi (by assumption) (by assumption)) (zz_lk1 (by assumption) (by assumption)) | exact zz_lk3 (hd _ _ (by decide) (by decide) (by decide)) (zz_lk3 (hd _ _ (by decide) (by decide) (by decide)) (by assumption)) | (simp only [zz_up]; simp_all; done)) rfl in_X2 0 rfl q1230 (fun _ h => h) (by first | rfl | assumption) dX2_takeBack_62 ?_
      refine zz_iload_n C dX2_takeBack_65 rfl ?_
      refine zz_bipush (v := nI 7) C dX2_takeBack_66 (by decide) ?_
      refine zz_callS C zy_X2_at (ct_X2_at b 7 eb rfl) rfl q1310 rfl rfl rfl rfl rfl dX2_takeBack_68 ⟨Nat.le_of_ble_eq_true rfl, Nat.le_of_ble_eq_true rfl⟩ (fun v hz hp => ?_)
      obtain ⟨rfl, ez⟩ := hp
      obtain rfl := ez.symm
      refine zz_bipush (v := (-6)) C dX2_takeBack_71 (by decide) ?_
      first | refine zz_iast2 C rfl (by omega) (by omega) dX2_takeBack_73 ?_ | refine zz_iast C (by first | assumption | exact zz_us | exact zz_lk1 (by assumption) (by assumption) | exact zz_lk3 (hd _ _ (by decide) (by decide) (by decide)) (by assumption) | exact zz_uf (by assumption) (by assumption) | exact zz_lk3 (zz_xi (by assumption) (by assumption)) (zz_lk1 (by assumption) (by assumption)) | exact zz_lk3 (hd _ _ (by decide) (by decide) (by decide)) (zz_lk3 (hd _ _ (by decide) (by decide) (by decide)) (by assumption)) | (simp only [zz_up]; simp_all; done)) rfl (by omega) (by omega) dX2_takeBack_73 ?_
      refine zz_iload_n C dX2_takeBack_74 rfl ?_
      refine zz_iret C dX2_takeBack_75 rfl rfl ?_
      first
      | (have eo : op_takeBack a v0 = (false, -1, a) := by first | (simp_all [op_takeBack, -Int32.not_le, -Int32.not_lt]; done) | (simp_all [op_takeBack, -Int32.not_le, -Int32.not_lt]; rfl)
         rw [eo]
         exact ⟨hi, kp, rfl, hX.S, tw_F.rf, qa_rc_f rfl⟩)
      | (have eo : op_takeBack a v0 = (false, -5, a) := by first | (simp_all [op_takeBack, -Int32.not_le, -Int32.not_lt]; done) | (simp_all [op_takeBack, -Int32.not_le, -Int32.not_lt]; rfl)
         rw [eo]
         exact ⟨hi, kp, rfl, hX.S, tw_F.rf, qa_rc_f rfl⟩)
      | (have eo : op_takeBack a v0 = (true, a (252 + 6 * o + 4), upd (upd (qa_tb1 a o) (252 + 6 * o + 4) (-6)) (12 + 10 * b + 7) (-6)) := by first | (simp_all [op_takeBack, -Int32.not_le, -Int32.not_lt]; done) | (simp_all [op_takeBack, -Int32.not_le, -Int32.not_lt]; rfl)
         rw [eo]
         exact ⟨hi', kp', rfl, (hX1.u0 _).S, hF1.tr (tw_F.up 0 (by decide)), qa_rc_t rfl hR1⟩)
    · refine zz_bipush (v := (-5)) C dX2_takeBack_24 (by decide) ?_
      refine zz_iret C dX2_takeBack_26 rfl rfl ?_
      first
      | (have eo : op_takeBack a v0 = (false, -1, a) := by first | (simp_all [op_takeBack, -Int32.not_le, -Int32.not_lt]; done) | (simp_all [op_takeBack, -Int32.not_le, -Int32.not_lt]; rfl)
         rw [eo]
         exact ⟨hi, kp, rfl, hX.S, tw_F.rf, qa_rc_f rfl⟩)
      | (have eo : op_takeBack a v0 = (false, -5, a) := by first | (simp_all [op_takeBack, -Int32.not_le, -Int32.not_lt]; done) | (simp_all [op_takeBack, -Int32.not_le, -Int32.not_lt]; rfl)
         rw [eo]
         exact ⟨hi, kp, rfl, hX.S, tw_F.rf, qa_rc_f rfl⟩)
      | (have eo : op_takeBack a v0 = (true, a (252 + 6 * o + 4), upd (upd (qa_tb1 a o) (252 + 6 * o + 4) (-6)) (12 + 10 * b + 7) (-6)) := by first | (simp_all [op_takeBack, -Int32.not_le, -Int32.not_lt]; done) | (simp_all [op_takeBack, -Int32.not_le, -Int32.not_lt]; rfl)
         rw [eo]
         exact ⟨hi', kp', rfl, (hX1.u0 _).S, hF1.tr (tw_F.up 0 (by decide)), qa_rc_t rfl hR1⟩)
  · refine zz_iconst (v := (-1)) C dX2_takeBack_8 (by decide) ?_
    refine zz_iret C dX2_takeBack_9 rfl rfl ?_
    first
    | (have eo : op_takeBack a v0 = (false, -1, a) := by first | (simp_all [op_takeBack, -Int32.not_le, -Int32.not_lt]; done) | (simp_all [op_takeBack, -Int32.not_le, -Int32.not_lt]; rfl)
       rw [eo]
       exact ⟨hi, kp, rfl, hX.S, tw_F.rf, qa_rc_f rfl⟩)
    | (have eo : op_takeBack a v0 = (false, -5, a) := by first | (simp_all [op_takeBack, -Int32.not_le, -Int32.not_lt]; done) | (simp_all [op_takeBack, -Int32.not_le, -Int32.not_lt]; rfl)
       rw [eo]
       exact ⟨hi, kp, rfl, hX.S, tw_F.rf, qa_rc_f rfl⟩)
    | (have eo : op_takeBack a v0 = (true, a (252 + 6 * o + 4), upd (upd (qa_tb1 a o) (252 + 6 * o + 4) (-6)) (12 + 10 * b + 7) (-6)) := by first | (simp_all [op_takeBack, -Int32.not_le, -Int32.not_lt]; done) | (simp_all [op_takeBack, -Int32.not_le, -Int32.not_lt]; rfl)
       rw [eo]
       exact ⟨hi', kp', rfl, (hX1.u0 _).S, hF1.tr (tw_F.up 0 (by decide)), qa_rc_t rfl hR1⟩)

theorem ct_X2_limits {l : Launch} {D : va_G} {b0 : Nat} {h : zz_H} {x : Nat} {ad : Nat → Nat} {a hi : Nat → Int32} {kp : Nat} {sl sv pd : Nat → Int32} {len : Nat} (hkp : kp ≤ 6) {v0 v1 v2 v3 : Int32} (hS : tw_S D h x ad a hi kp sl sv pd len)  : zz_Ct l D b0 yX2_limits cX2_limits 6 (some .int) 2 44 0 0 [.ref x, .int v0, .int v1, .int v2, .int v3] h (fun v h' => ∃ (hi' : Nat → Int32) (kp' : Nat), v = some (.int (op_limits a v0 v1 v2 v3).2.1) ∧ tw_S D h' x ad (op_limits a v0 v1 v2 v3).2.2 hi' kp' sl sv pd len ∧ tw_F x ad h h' ∧ qa_rc (op_limits a v0 v1 v2 v3).1 hi kp a hi' kp') := by
  refine zz_Ct.of zy_X2_limits.1 rfl ?_
  intro p e s m below meth c C
  obtain ⟨ah, so, pos, wr, to, hX⟩ := hS
  have hM := hX.M
  obtain ⟨hx, h0, h1a, h2a, h3a, h4a, h5a, h6, h7, hd⟩ := id hX
  refine zz_iload_n C dX2_limits_0 rfl ?_
  refine zz_callS C zy_X2_isLorry (ct_X2_isLorry) rfl q1380 rfl rfl rfl rfl rfl dX2_limits_1 ⟨Nat.le_of_ble_eq_true rfl, Nat.le_of_ble_eq_true rfl⟩ (fun v hz hp => ?_)
  obtain ⟨rfl, ez⟩ := hp
  obtain rfl := ez.symm
  first | refine zz_ifb_ne (tgt := 9) C dX2_limits_4 (by decide) (fun c4 => ?_) (fun c4 => ?_) | refine zz_if_ne (tgt := 9) C dX2_limits_4 (by decide) (fun c4 => ?_) (fun c4 => ?_)
  · obtain ⟨l0, hl0, ev⟩ := qa_ixk 2 (by omega) ‹qa_in v0 0 2 = true›
    have eln : v0.toNatClampNeg = l0 := by rw [ev]; exact nI_clamp (by omega)
    refine zz_iload_n C dX2_limits_9 rfl ?_
    refine zz_bipush (v := 100) C dX2_limits_10 (by decide) ?_
    refine zz_sipush (v := 30000) C dX2_limits_12 (by decide) ?_
    refine zz_callS C zy_X2_in (ct_X2_in) rfl q1272 rfl rfl rfl rfl rfl dX2_limits_15 ⟨Nat.le_of_ble_eq_true rfl, Nat.le_of_ble_eq_true rfl⟩ (fun v hz hp => ?_)
    obtain ⟨rfl, ez⟩ := hp
    obtain rfl := ez.symm
    first | refine zz_ifb_eq (tgt := 46) C dX2_limits_18 (by decide) (fun c18 => ?_) (fun c18 => ?_) | refine zz_if_eq (tgt := 46) C dX2_limits_18 (by decide) (fun c18 => ?_) (fun c18 => ?_)
    · refine zz_bipush (v := (-2)) C dX2_limits_46 (by decide) ?_
      refine zz_iret C dX2_limits_48 rfl rfl ?_
      first
      | (have eo : op_limits a v0 v1 v2 v3 = (false, -1, a) := by first | (simp_all [op_limits, -Int32.not_le, -Int32.not_lt]; done) | (simp_all [op_limits, -Int32.not_le, -Int32.not_lt]; rfl)
         rw [eo]
         exact ⟨hi, kp, rfl, hX.S, tw_F.rf, qa_rc_f rfl⟩)
      | (have eo : op_limits a v0 v1 v2 v3 = (false, -2, a) := by first | (simp_all [op_limits, -Int32.not_le, -Int32.not_lt]; done) | (simp_all [op_limits, -Int32.not_le, -Int32.not_lt]; rfl)
         rw [eo]
         exact ⟨hi, kp, rfl, hX.S, tw_F.rf, qa_rc_f rfl⟩)
      | (have eo : op_limits a v0 v1 v2 v3 = (true, 1, upd (upd (upd a (312 + 4 * l0 + 0) v1) (312 + 4 * l0 + 1) v2) (312 + 4 * l0 + 2) v3) := by first | (simp_all [op_limits, -Int32.not_le, -Int32.not_lt]; done) | (simp_all [op_limits, -Int32.not_le, -Int32.not_lt]; rfl)
         rw [eo]
         exact ⟨hi', kp', rfl, (hX1.u0 _).S, hF1.tr (tw_F.up 0 (by decide)), qa_rc_t rfl hR1⟩)
    · refine zz_iload_n C dX2_limits_21 rfl ?_
      refine zz_bipush (v := 100) C dX2_limits_22 (by decide) ?_
      refine zz_sipush (v := 30000) C dX2_limits_24 (by decide) ?_
      refine zz_callS C zy_X2_in (ct_X2_in) rfl q1272 rfl rfl rfl rfl rfl dX2_limits_27 ⟨Nat.le_of_ble_eq_true rfl, Nat.le_of_ble_eq_true rfl⟩ (fun v hz hp => ?_)
      obtain ⟨rfl, ez⟩ := hp
      obtain rfl := ez.symm
      first | refine zz_ifb_eq (tgt := 46) C dX2_limits_30 (by decide) (fun c30 => ?_) (fun c30 => ?_) | refine zz_if_eq (tgt := 46) C dX2_limits_30 (by decide) (fun c30 => ?_) (fun c30 => ?_)
      · refine zz_bipush (v := (-2)) C dX2_limits_46 (by decide) ?_
        refine zz_iret C dX2_limits_48 rfl rfl ?_
        first
        | (have eo : op_limits a v0 v1 v2 v3 = (false, -1, a) := by first | (simp_all [op_limits, -Int32.not_le, -Int32.not_lt]; done) | (simp_all [op_limits, -Int32.not_le, -Int32.not_lt]; rfl)
           rw [eo]
           exact ⟨hi, kp, rfl, hX.S, tw_F.rf, qa_rc_f rfl⟩)
        | (have eo : op_limits a v0 v1 v2 v3 = (false, -2, a) := by first | (simp_all [op_limits, -Int32.not_le, -Int32.not_lt]; done) | (simp_all [op_limits, -Int32.not_le, -Int32.not_lt]; rfl)
           rw [eo]
           exact ⟨hi, kp, rfl, hX.S, tw_F.rf, qa_rc_f rfl⟩)
        | (have eo : op_limits a v0 v1 v2 v3 = (true, 1, upd (upd (upd a (312 + 4 * l0 + 0) v1) (312 + 4 * l0 + 1) v2) (312 + 4 * l0 + 2) v3) := by first | (simp_all [op_limits, -Int32.not_le, -Int32.not_lt]; done) | (simp_all [op_limits, -Int32.not_le, -Int32.not_lt]; rfl)
           rw [eo]
           exact ⟨hi', kp', rfl, (hX1.u0 _).S, hF1.tr (tw_F.up 0 (by decide)), qa_rc_t rfl hR1⟩)
      · refine zz_iload C dX2_limits_33 rfl ?_
        refine zz_bipush (v := 100) C dX2_limits_35 (by decide) ?_
        refine zz_sipush (v := 30000) C dX2_limits_37 (by decide) ?_
        refine zz_callS C zy_X2_in (ct_X2_in) rfl q1272 rfl rfl rfl rfl rfl dX2_limits_40 ⟨Nat.le_of_ble_eq_true rfl, Nat.le_of_ble_eq_true rfl⟩ (fun v hz hp => ?_)
        obtain ⟨rfl, ez⟩ := hp
        obtain rfl := ez.symm
        first | refine zz_ifb_ne (tgt := 49) C dX2_limits_43 (by decide) (fun c43 => ?_) (fun c43 => ?_) | refine zz_if_ne (tgt := 49) C dX2_limits_43 (by decide) (fun c43 => ?_) (fun c43 => ?_)
        · first | refine zz_aload_n C dX2_limits_49 rfl ?_ | refine zz_aload_nN C dX2_limits_49 rfl ?_
          refine zz_iload_n C dX2_limits_50 rfl ?_
          refine zz_iconst (v := nI 0) C dX2_limits_51 (by decide) ?_
          refine zz_callS C zy_X2_ofLorryAt (ct_X2_ofLorryAt l0 0 ev rfl) rfl q1227 rfl rfl rfl rfl rfl dX2_limits_52 ⟨Nat.le_of_ble_eq_true rfl, Nat.le_of_ble_eq_true rfl⟩ (fun v hz hp => ?_)
          obtain ⟨rfl, ez⟩ := hp
          obtain rfl := ez.symm
          refine zz_iload_n C dX2_limits_55 rfl ?_
          refine zz_callV C zy_X2_lays (ct_X2_lays hkp (312 + 4 * l0 + 0) rfl (by omega) hX) rfl q1275 (by first | assumption | exact zz_us | exact zz_lk1 (by assumption) (by assumption) | exact zz_lk3 (hd _ _ (by decide) (by decide) (by decide)) (by assumption) | exact zz_uf (by assumption) (by assumption) | exact zz_lk3 (zz_xi (by assumption) (by assumption)) (zz_lk1 (by assumption) (by assumption)) | exact zz_lk3 (hd _ _ (by decide) (by decide) (by decide)) (zz_lk3 (hd _ _ (by decide) (by decide) (by decide)) (by assumption)) | (simp only [zz_up]; simp_all; done)) rfl rfl rfl rfl rfl rfl dX2_limits_56 ⟨Nat.le_of_ble_eq_true rfl, Nat.le_of_ble_eq_true rfl⟩ (fun v hz hp => ?_)
          obtain ⟨ah', hi', kp', rfl, hX1, hF1, hR1⟩ := hp
          clear hx h0 h1a h2a h3a h4a h5a h6 h7
          obtain ⟨hx, h0, h1a, h2a, h3a, h4a, h5a, h6, h7, -⟩ := id hX1
          have hM1 := hX1.M
          refine zz_istore C dX2_limits_59 (by decide) ?_
          first | refine zz_aload_n C dX2_limits_61 rfl ?_ | refine zz_aload_nN C dX2_limits_61 rfl ?_
          refine zz_get C rfl (by first | assumption | exact zz_us | exact zz_lk1 (by assumption) (by assumption) | exact zz_lk3 (hd _ _ (by decide) (by decide) (by decide)) (by assumption) | exact zz_uf (by assumption) (by assumption) | exact zz_lk3 (zz_xi (by assumption) (by assumption)) (zz_lk1 (by assumption) (by assumption)) | exact zz_lk3 (hd _ _ (by decide) (by decide) (by decide)) (zz_lk3 (hd _ _ (by decide) (by decide) (by decide)) (by assumption)) | (simp only [zz_up]; simp_all; done)) rfl in_X2 0 rfl q1230 (fun _ h => h) (by first | rfl | assumption) dX2_limits_62 ?_
          refine zz_iload_n C dX2_limits_65 rfl ?_
          refine zz_iconst (v := nI 1) C dX2_limits_66 (by decide) ?_
          refine zz_callS C zy_X2_ofLorryAt (ct_X2_ofLorryAt l0 1 ev rfl) rfl q1227 rfl rfl rfl rfl rfl dX2_limits_67 ⟨Nat.le_of_ble_eq_true rfl, Nat.le_of_ble_eq_true rfl⟩ (fun v hz hp => ?_)
          obtain ⟨rfl, ez⟩ := hp
          obtain rfl := ez.symm
          refine zz_iload_n C dX2_limits_70 rfl ?_
          first | refine zz_iast2 C rfl (by omega) (by omega) dX2_limits_71 ?_ | refine zz_iast C (by first | assumption | exact zz_us | exact zz_lk1 (by assumption) (by assumption) | exact zz_lk3 (hd _ _ (by decide) (by decide) (by decide)) (by assumption) | exact zz_uf (by assumption) (by assumption) | exact zz_lk3 (zz_xi (by assumption) (by assumption)) (zz_lk1 (by assumption) (by assumption)) | exact zz_lk3 (hd _ _ (by decide) (by decide) (by decide)) (zz_lk3 (hd _ _ (by decide) (by decide) (by decide)) (by assumption)) | (simp only [zz_up]; simp_all; done)) rfl (by omega) (by omega) dX2_limits_71 ?_
          first | refine zz_aload_n C dX2_limits_72 rfl ?_ | refine zz_aload_nN C dX2_limits_72 rfl ?_
          refine zz_get C rfl (by first | assumption | exact zz_us | exact zz_lk1 (by assumption) (by assumption) | exact zz_lk3 (hd _ _ (by decide) (by decide) (by decide)) (by assumption) | exact zz_uf (by assumption) (by assumption) | exact zz_lk3 (zz_xi (by assumption) (by assumption)) (zz_lk1 (by assumption) (by assumption)) | exact zz_lk3 (hd _ _ (by decide) (by decide) (by decide)) (zz_lk3 (hd _ _ (by decide) (by decide) (by decide)) (by assumption)) | (simp only [zz_up]; simp_all; done)) rfl in_X2 0 rfl q1230 (fun _ h => h) (by first | rfl | assumption) dX2_limits_73 ?_
          refine zz_iload_n C dX2_limits_76 rfl ?_
          refine zz_iconst (v := nI 2) C dX2_limits_77 (by decide) ?_
          refine zz_callS C zy_X2_ofLorryAt (ct_X2_ofLorryAt l0 2 ev rfl) rfl q1227 rfl rfl rfl rfl rfl dX2_limits_78 ⟨Nat.le_of_ble_eq_true rfl, Nat.le_of_ble_eq_true rfl⟩ (fun v hz hp => ?_)
          obtain ⟨rfl, ez⟩ := hp
          obtain rfl := ez.symm
          refine zz_iload C dX2_limits_81 rfl ?_
          first | refine zz_iast2 C rfl (by omega) (by omega) dX2_limits_83 ?_ | refine zz_iast C (by first | assumption | exact zz_us | exact zz_lk1 (by assumption) (by assumption) | exact zz_lk3 (hd _ _ (by decide) (by decide) (by decide)) (by assumption) | exact zz_uf (by assumption) (by assumption) | exact zz_lk3 (zz_xi (by assumption) (by assumption)) (zz_lk1 (by assumption) (by assumption)) | exact zz_lk3 (hd _ _ (by decide) (by decide) (by decide)) (zz_lk3 (hd _ _ (by decide) (by decide) (by decide)) (by assumption)) | (simp only [zz_up]; simp_all; done)) rfl (by omega) (by omega) dX2_limits_83 ?_
          refine zz_iconst (v := 1) C dX2_limits_84 (by decide) ?_
          refine zz_iret C dX2_limits_85 rfl rfl ?_
          first
          | (have eo : op_limits a v0 v1 v2 v3 = (false, -1, a) := by first | (simp_all [op_limits, -Int32.not_le, -Int32.not_lt]; done) | (simp_all [op_limits, -Int32.not_le, -Int32.not_lt]; rfl)
             rw [eo]
             exact ⟨hi, kp, rfl, hX.S, tw_F.rf, qa_rc_f rfl⟩)
          | (have eo : op_limits a v0 v1 v2 v3 = (false, -2, a) := by first | (simp_all [op_limits, -Int32.not_le, -Int32.not_lt]; done) | (simp_all [op_limits, -Int32.not_le, -Int32.not_lt]; rfl)
             rw [eo]
             exact ⟨hi, kp, rfl, hX.S, tw_F.rf, qa_rc_f rfl⟩)
          | (have eo : op_limits a v0 v1 v2 v3 = (true, 1, upd (upd (upd a (312 + 4 * l0 + 0) v1) (312 + 4 * l0 + 1) v2) (312 + 4 * l0 + 2) v3) := by first | (simp_all [op_limits, -Int32.not_le, -Int32.not_lt]; done) | (simp_all [op_limits, -Int32.not_le, -Int32.not_lt]; rfl)
             rw [eo]
             exact ⟨hi', kp', rfl, (hX1.u0 _).S, hF1.tr (tw_F.up 0 (by decide)), qa_rc_t rfl hR1⟩)
        · refine zz_bipush (v := (-2)) C dX2_limits_46 (by decide) ?_
          refine zz_iret C dX2_limits_48 rfl rfl ?_
          first
          | (have eo : op_limits a v0 v1 v2 v3 = (false, -1, a) := by first | (simp_all [op_limits, -Int32.not_le, -Int32.not_lt]; done) | (simp_all [op_limits, -Int32.not_le, -Int32.not_lt]; rfl)
             rw [eo]
             exact ⟨hi, kp, rfl, hX.S, tw_F.rf, qa_rc_f rfl⟩)
          | (have eo : op_limits a v0 v1 v2 v3 = (false, -2, a) := by first | (simp_all [op_limits, -Int32.not_le, -Int32.not_lt]; done) | (simp_all [op_limits, -Int32.not_le, -Int32.not_lt]; rfl)
             rw [eo]
             exact ⟨hi, kp, rfl, hX.S, tw_F.rf, qa_rc_f rfl⟩)
          | (have eo : op_limits a v0 v1 v2 v3 = (true, 1, upd (upd (upd a (312 + 4 * l0 + 0) v1) (312 + 4 * l0 + 1) v2) (312 + 4 * l0 + 2) v3) := by first | (simp_all [op_limits, -Int32.not_le, -Int32.not_lt]; done) | (simp_all [op_limits, -Int32.not_le, -Int32.not_lt]; rfl)
             rw [eo]
             exact ⟨hi', kp', rfl, (hX1.u0 _).S, hF1.tr (tw_F.up 0 (by decide)), qa_rc_t rfl hR1⟩)
  · refine zz_iconst (v := (-1)) C dX2_limits_7 (by decide) ?_
    refine zz_iret C dX2_limits_8 rfl rfl ?_
    first
    | (have eo : op_limits a v0 v1 v2 v3 = (false, -1, a) := by first | (simp_all [op_limits, -Int32.not_le, -Int32.not_lt]; done) | (simp_all [op_limits, -Int32.not_le, -Int32.not_lt]; rfl)
       rw [eo]
       exact ⟨hi, kp, rfl, hX.S, tw_F.rf, qa_rc_f rfl⟩)
    | (have eo : op_limits a v0 v1 v2 v3 = (false, -2, a) := by first | (simp_all [op_limits, -Int32.not_le, -Int32.not_lt]; done) | (simp_all [op_limits, -Int32.not_le, -Int32.not_lt]; rfl)
       rw [eo]
       exact ⟨hi, kp, rfl, hX.S, tw_F.rf, qa_rc_f rfl⟩)
    | (have eo : op_limits a v0 v1 v2 v3 = (true, 1, upd (upd (upd a (312 + 4 * l0 + 0) v1) (312 + 4 * l0 + 1) v2) (312 + 4 * l0 + 2) v3) := by first | (simp_all [op_limits, -Int32.not_le, -Int32.not_lt]; done) | (simp_all [op_limits, -Int32.not_le, -Int32.not_lt]; rfl)
       rw [eo]
       exact ⟨hi', kp', rfl, (hX1.u0 _).S, hF1.tr (tw_F.up 0 (by decide)), qa_rc_t rfl hR1⟩)

theorem ct_X2_unload {l : Launch} {D : va_G} {b0 : Nat} {h : zz_H} {x : Nat} {ad : Nat → Nat} {a hi : Nat → Int32} {kp : Nat} {sl sv pd : Nat → Int32} {len : Nat} (hkp : kp ≤ 6) {v0 : Int32} (nb : Nat) (h5 : a 5 = nI nb) (hnb : nb ≤ 24) (hS : tw_S D h x ad a hi kp sl sv pd len)  : zz_Ct l D b0 yX2_unload cX2_unload 3 (some .int) 3 68 0 0 [.ref x, .int v0] h (fun v h' => ∃ (hi' : Nat → Int32) (kp' : Nat), v = some (.int (op_unload a v0).2.1) ∧ tw_S D h' x ad (op_unload a v0).2.2 hi' kp' sl sv pd len ∧ tw_F x ad h h' ∧ qa_rc (op_unload a v0).1 hi kp a hi' kp') := by
  refine zz_Ct.of zy_X2_unload.1 rfl ?_
  intro p e s m below meth c C
  obtain ⟨ah, so, pos, wr, to, hX⟩ := hS
  have hM := hX.M
  obtain ⟨hx, h0, h1a, h2a, h3a, h4a, h5a, h6, h7, hd⟩ := id hX
  have hn5 : (a 5).toNatClampNeg = nb := by rw [h5]; exact nI_clamp (by omega)
  first | refine zz_aload_n C dX2_unload_0 rfl ?_ | refine zz_aload_nN C dX2_unload_0 rfl ?_
  refine zz_iload_n C dX2_unload_1 rfl ?_
  refine zz_callV C zy_X2_isBlock (ct_X2_isBlock hM) rfl q1321 (by first | assumption | exact zz_us | exact zz_lk1 (by assumption) (by assumption) | exact zz_lk3 (hd _ _ (by decide) (by decide) (by decide)) (by assumption) | exact zz_uf (by assumption) (by assumption) | exact zz_lk3 (zz_xi (by assumption) (by assumption)) (zz_lk1 (by assumption) (by assumption)) | exact zz_lk3 (hd _ _ (by decide) (by decide) (by decide)) (zz_lk3 (hd _ _ (by decide) (by decide) (by decide)) (by assumption)) | (simp only [zz_up]; simp_all; done)) rfl rfl rfl rfl rfl rfl dX2_unload_2 ⟨Nat.le_of_ble_eq_true rfl, Nat.le_of_ble_eq_true rfl⟩ (fun v hz hp => ?_)
  obtain ⟨rfl, ez⟩ := hp
  obtain rfl := ez.symm
  first | refine zz_ifb_ne (tgt := 10) C dX2_unload_5 (by decide) (fun c5 => ?_) (fun c5 => ?_) | refine zz_if_ne (tgt := 10) C dX2_unload_5 (by decide) (fun c5 => ?_) (fun c5 => ?_)
  · obtain ⟨b, hb, ev⟩ := qa_ix (n := nb) (by omega) (by rw [← h5]; assumption)
    have ebn : v0.toNatClampNeg = b := by rw [ev]; exact nI_clamp (by omega)
    first | refine zz_aload_n C dX2_unload_10 rfl ?_ | refine zz_aload_nN C dX2_unload_10 rfl ?_
    refine zz_iload_n C dX2_unload_11 rfl ?_
    refine zz_iconst (v := 2) C dX2_unload_12 (by decide) ?_
    refine zz_callV C zy_X2_isAt (ct_X2_isAt b ev (by omega) hM) rfl q1333 (by first | assumption | exact zz_us | exact zz_lk1 (by assumption) (by assumption) | exact zz_lk3 (hd _ _ (by decide) (by decide) (by decide)) (by assumption) | exact zz_uf (by assumption) (by assumption) | exact zz_lk3 (zz_xi (by assumption) (by assumption)) (zz_lk1 (by assumption) (by assumption)) | exact zz_lk3 (hd _ _ (by decide) (by decide) (by decide)) (zz_lk3 (hd _ _ (by decide) (by decide) (by decide)) (by assumption)) | (simp only [zz_up]; simp_all; done)) rfl rfl rfl rfl rfl rfl dX2_unload_13 ⟨Nat.le_of_ble_eq_true rfl, Nat.le_of_ble_eq_true rfl⟩ (fun v hz hp => ?_)
    obtain ⟨rfl, ez⟩ := hp
    obtain rfl := ez.symm
    first | refine zz_ifb_ne (tgt := 22) C dX2_unload_16 (by decide) (fun c16 => ?_) (fun c16 => ?_) | refine zz_if_ne (tgt := 22) C dX2_unload_16 (by decide) (fun c16 => ?_) (fun c16 => ?_)
    · first | refine zz_aload_n C dX2_unload_22 rfl ?_ | refine zz_aload_nN C dX2_unload_22 rfl ?_
      refine zz_iload_n C dX2_unload_23 rfl ?_
      refine zz_bipush (v := nI 8) C dX2_unload_24 (by decide) ?_
      refine zz_callS C zy_X2_at (ct_X2_at b 8 ev rfl) rfl q1310 rfl rfl rfl rfl rfl dX2_unload_26 ⟨Nat.le_of_ble_eq_true rfl, Nat.le_of_ble_eq_true rfl⟩ (fun v hz hp => ?_)
      obtain ⟨rfl, ez⟩ := hp
      obtain rfl := ez.symm
      refine zz_bipush (v := (-6)) C dX2_unload_29 (by decide) ?_
      refine zz_callV C zy_X2_lays (ct_X2_lays hkp (12 + 10 * b + 8) rfl (by omega) hX) rfl q1275 (by first | assumption | exact zz_us | exact zz_lk1 (by assumption) (by assumption) | exact zz_lk3 (hd _ _ (by decide) (by decide) (by decide)) (by assumption) | exact zz_uf (by assumption) (by assumption) | exact zz_lk3 (zz_xi (by assumption) (by assumption)) (zz_lk1 (by assumption) (by assumption)) | exact zz_lk3 (hd _ _ (by decide) (by decide) (by decide)) (zz_lk3 (hd _ _ (by decide) (by decide) (by decide)) (by assumption)) | (simp only [zz_up]; simp_all; done)) rfl rfl rfl rfl rfl rfl dX2_unload_31 ⟨Nat.le_of_ble_eq_true rfl, Nat.le_of_ble_eq_true rfl⟩ (fun v hz hp => ?_)
      obtain ⟨ah', hi', kp', rfl, hX1, hF1, hR1⟩ := hp
      clear hx h0 h1a h2a h3a h4a h5a h6 h7
      obtain ⟨hx, h0, h1a, h2a, h3a, h4a, h5a, h6, h7, -⟩ := id hX1
      have hM1 := hX1.M
      refine zz_istore_n C dX2_unload_34 (by decide) ?_
      first | refine zz_aload_n C dX2_unload_35 rfl ?_ | refine zz_aload_nN C dX2_unload_35 rfl ?_
      refine zz_get C rfl (by first | assumption | exact zz_us | exact zz_lk1 (by assumption) (by assumption) | exact zz_lk3 (hd _ _ (by decide) (by decide) (by decide)) (by assumption) | exact zz_uf (by assumption) (by assumption) | exact zz_lk3 (zz_xi (by assumption) (by assumption)) (zz_lk1 (by assumption) (by assumption)) | exact zz_lk3 (hd _ _ (by decide) (by decide) (by decide)) (zz_lk3 (hd _ _ (by decide) (by decide) (by decide)) (by assumption)) | (simp only [zz_up]; simp_all; done)) rfl in_X2 0 rfl q1230 (fun _ h => h) (by first | rfl | assumption) dX2_unload_36 ?_
      refine zz_iload_n C dX2_unload_39 rfl ?_
      refine zz_iconst (v := nI 4) C dX2_unload_40 (by decide) ?_
      refine zz_callS C zy_X2_at (ct_X2_at b 4 ev rfl) rfl q1310 rfl rfl rfl rfl rfl dX2_unload_41 ⟨Nat.le_of_ble_eq_true rfl, Nat.le_of_ble_eq_true rfl⟩ (fun v hz hp => ?_)
      obtain ⟨rfl, ez⟩ := hp
      obtain rfl := ez.symm
      refine zz_iconst (v := 0) C dX2_unload_44 (by decide) ?_
      first | refine zz_iast2 C rfl (by omega) (by omega) dX2_unload_45 ?_ | refine zz_iast C (by first | assumption | exact zz_us | exact zz_lk1 (by assumption) (by assumption) | exact zz_lk3 (hd _ _ (by decide) (by decide) (by decide)) (by assumption) | exact zz_uf (by assumption) (by assumption) | exact zz_lk3 (zz_xi (by assumption) (by assumption)) (zz_lk1 (by assumption) (by assumption)) | exact zz_lk3 (hd _ _ (by decide) (by decide) (by decide)) (zz_lk3 (hd _ _ (by decide) (by decide) (by decide)) (by assumption)) | (simp only [zz_up]; simp_all; done)) rfl (by omega) (by omega) dX2_unload_45 ?_
      rw [show upd (upd a (12 + 10 * b + 8) (-6)) (12 + 10 * b + 4) 0 = qa_unl a b from rfl]
      first | refine zz_aload_n C dX2_unload_46 rfl ?_ | refine zz_aload_nN C dX2_unload_46 rfl ?_
      refine zz_iload_n C dX2_unload_47 rfl ?_
      refine zz_iconst (v := 5) C dX2_unload_48 (by decide) ?_
      refine zz_idiv C dX2_unload_49 (by decide) ?_
      refine zz_callV C zy_X2_loadOf (ct_X2_loadOf (a := qa_unl a b) nb (by unfold qa_unl; rw [up_n (by omega), up_n (by omega), h5]) hnb ((hX1.u0 (qa_unl a b)).M)) rfl q1387 (by first | assumption | exact zz_us | exact zz_lk1 (by assumption) (by assumption) | exact zz_lk3 (hd _ _ (by decide) (by decide) (by decide)) (by assumption) | exact zz_uf (by assumption) (by assumption) | exact zz_lk3 (zz_xi (by assumption) (by assumption)) (zz_lk1 (by assumption) (by assumption)) | exact zz_lk3 (hd _ _ (by decide) (by decide) (by decide)) (zz_lk3 (hd _ _ (by decide) (by decide) (by decide)) (by assumption)) | (simp only [zz_up]; simp_all; done)) rfl rfl rfl rfl rfl rfl dX2_unload_50 ⟨Nat.le_of_ble_eq_true rfl, Nat.le_of_ble_eq_true rfl⟩ (fun v hz hp => ?_)
      obtain ⟨rfl, ez⟩ := hp
      obtain rfl := ez.symm
      refine zz_iret C dX2_unload_53 rfl rfl ?_
      first
      | (have eo : op_unload a v0 = (false, -1, a) := by first | (simp_all [op_unload, -Int32.not_le, -Int32.not_lt]; done) | (simp_all [op_unload, -Int32.not_le, -Int32.not_lt]; rfl)
         rw [eo]
         exact ⟨hi, kp, rfl, hX.S, tw_F.rf, qa_rc_f rfl⟩)
      | (have eo : op_unload a v0 = (false, -5, a) := by first | (simp_all [op_unload, -Int32.not_le, -Int32.not_lt]; done) | (simp_all [op_unload, -Int32.not_le, -Int32.not_lt]; rfl)
         rw [eo]
         exact ⟨hi, kp, rfl, hX.S, tw_F.rf, qa_rc_f rfl⟩)
      | (have eo : op_unload a v0 = (true, qa_load (qa_unl a b) nb (a (12 + 10 * b + 8) / 5) 5, qa_unl a b) := by first | (simp_all [op_unload, -Int32.not_le, -Int32.not_lt]; done) | (simp_all [op_unload, -Int32.not_le, -Int32.not_lt]; rfl)
         rw [eo]
         exact ⟨hi', kp', rfl, (hX1.u0 _).S, hF1.tr (tw_F.up 0 (by decide)), qa_rc_t rfl hR1⟩)
    · refine zz_bipush (v := (-5)) C dX2_unload_19 (by decide) ?_
      refine zz_iret C dX2_unload_21 rfl rfl ?_
      first
      | (have eo : op_unload a v0 = (false, -1, a) := by first | (simp_all [op_unload, -Int32.not_le, -Int32.not_lt]; done) | (simp_all [op_unload, -Int32.not_le, -Int32.not_lt]; rfl)
         rw [eo]
         exact ⟨hi, kp, rfl, hX.S, tw_F.rf, qa_rc_f rfl⟩)
      | (have eo : op_unload a v0 = (false, -5, a) := by first | (simp_all [op_unload, -Int32.not_le, -Int32.not_lt]; done) | (simp_all [op_unload, -Int32.not_le, -Int32.not_lt]; rfl)
         rw [eo]
         exact ⟨hi, kp, rfl, hX.S, tw_F.rf, qa_rc_f rfl⟩)
      | (have eo : op_unload a v0 = (true, qa_load (qa_unl a b) nb (a (12 + 10 * b + 8) / 5) 5, qa_unl a b) := by first | (simp_all [op_unload, -Int32.not_le, -Int32.not_lt]; done) | (simp_all [op_unload, -Int32.not_le, -Int32.not_lt]; rfl)
         rw [eo]
         exact ⟨hi', kp', rfl, (hX1.u0 _).S, hF1.tr (tw_F.up 0 (by decide)), qa_rc_t rfl hR1⟩)
  · refine zz_iconst (v := (-1)) C dX2_unload_8 (by decide) ?_
    refine zz_iret C dX2_unload_9 rfl rfl ?_
    first
    | (have eo : op_unload a v0 = (false, -1, a) := by first | (simp_all [op_unload, -Int32.not_le, -Int32.not_lt]; done) | (simp_all [op_unload, -Int32.not_le, -Int32.not_lt]; rfl)
       rw [eo]
       exact ⟨hi, kp, rfl, hX.S, tw_F.rf, qa_rc_f rfl⟩)
    | (have eo : op_unload a v0 = (false, -5, a) := by first | (simp_all [op_unload, -Int32.not_le, -Int32.not_lt]; done) | (simp_all [op_unload, -Int32.not_le, -Int32.not_lt]; rfl)
       rw [eo]
       exact ⟨hi, kp, rfl, hX.S, tw_F.rf, qa_rc_f rfl⟩)
    | (have eo : op_unload a v0 = (true, qa_load (qa_unl a b) nb (a (12 + 10 * b + 8) / 5) 5, qa_unl a b) := by first | (simp_all [op_unload, -Int32.not_le, -Int32.not_lt]; done) | (simp_all [op_unload, -Int32.not_le, -Int32.not_lt]; rfl)
       rw [eo]
       exact ⟨hi', kp', rfl, (hX1.u0 _).S, hF1.tr (tw_F.up 0 (by decide)), qa_rc_t rfl hR1⟩)

theorem ct_X2_wipe {l : Launch} {D : va_G} {b0 : Nat} {h : zz_H} {x : Nat} {ad : Nat → Nat} {a hi : Nat → Int32} {kp : Nat} {sl sv pd : Nat → Int32} {len : Nat} (hS : tw_S D h x ad a hi kp sl sv pd len)  : zz_Ct l D b0 yX2_wipe cX2_wipe 2 (some .int) 0 0 0 0 [.ref x] h (fun v h' => v = some (.int (nI len)) ∧ tw_S D h' x ad a hi kp sl sv pd 0 ∧ tw_F x ad h h') := by
  refine zz_Ct.of zy_X2_wipe.1 rfl ?_
  intro p e s m below meth c C
  obtain ⟨ah, so, pos, wr, to, hX⟩ := hS
  have hM := hX.M
  obtain ⟨hx, h0, h1a, h2a, h3a, h4a, h5a, h6, h7, hd⟩ := id hX
  first | refine zz_aload_n C dX2_wipe_0 rfl ?_ | refine zz_aload_nN C dX2_wipe_0 rfl ?_
  refine zz_get C rfl (by first | assumption | exact zz_us | exact zz_lk1 (by assumption) (by assumption) | exact zz_lk3 (hd _ _ (by decide) (by decide) (by decide)) (by assumption) | exact zz_uf (by assumption) (by assumption) | exact zz_lk3 (zz_xi (by assumption) (by assumption)) (zz_lk1 (by assumption) (by assumption)) | exact zz_lk3 (hd _ _ (by decide) (by decide) (by decide)) (zz_lk3 (hd _ _ (by decide) (by decide) (by decide)) (by assumption)) | (simp only [zz_up]; simp_all; done)) rfl in_X2 7 rfl q1237 (fun _ h => h) (by first | rfl | assumption) dX2_wipe_1 ?_
  refine zz_istore_n C dX2_wipe_4 (by decide) ?_
  first | refine zz_aload_n C dX2_wipe_5 rfl ?_ | refine zz_aload_nN C dX2_wipe_5 rfl ?_
  refine zz_iconst (v := 0) C dX2_wipe_6 (by decide) ?_
  refine zz_put C rfl (by first | assumption | exact zz_us | exact zz_lk1 (by assumption) (by assumption) | exact zz_lk3 (hd _ _ (by decide) (by decide) (by decide)) (by assumption) | exact zz_uf (by assumption) (by assumption) | exact zz_lk3 (zz_xi (by assumption) (by assumption)) (zz_lk1 (by assumption) (by assumption)) | exact zz_lk3 (hd _ _ (by decide) (by decide) (by decide)) (zz_lk3 (hd _ _ (by decide) (by decide) (by decide)) (by assumption)) | (simp only [zz_up]; simp_all; done)) rfl in_X2 tyX2 tyX2_ok nmX2 7 rfl q1237 (fun _ h => h) rfl (tyX2_ok 7 (by decide)) (by first | rfl | exact zz_narZ (by first | exact zz_b01 _ | assumption | decide)) rfl (Nat.le_of_ble_eq_true rfl) dX2_wipe_7 ?_
  refine zz_iload_n C dX2_wipe_10 rfl ?_
  refine zz_iret C dX2_wipe_11 rfl rfl ?_
  exact ⟨rfl, (hX.fx kp 0 pos wr).S, tw_F.ux⟩

theorem ct_X2_undo {l : Launch} {D : va_G} {b0 : Nat} {h : zz_H} {x : Nat} {ad : Nat → Nat} {a hi : Nat → Int32} {kp : Nat} {sl sv pd : Nat → Int32} {len : Nat} (hkp : kp ≤ 6) (hS : tw_S D h x ad a hi kp sl sv pd len)  : zz_Ct l D b0 yX2_undo cX2_undo 2 (some .int) 0 0 0 0 [.ref x] h (fun v h' => ∃ a' : Nat → Int32, v = some (.int (if kp = 0 then -5 else nI (kp - 1))) ∧ tw_S D h' x ad a' hi (kp - 1) sl sv pd len ∧ tw_F x ad h h' ∧ (kp = 0 → a' = a) ∧ (0 < kp → ∀ k, k < 324 → a' k = hi (324 * (kp - 1) + k))) := by
  refine zz_Ct.of zy_X2_undo.1 rfl ?_
  intro p e s m below meth c C
  obtain ⟨ah, so, pos, wr, to, hX⟩ := hS
  have hM := hX.M
  obtain ⟨hx, h0, h1a, h2a, h3a, h4a, h5a, h6, h7, hd⟩ := id hX
  first | refine zz_aload_n C dX2_undo_0 rfl ?_ | refine zz_aload_nN C dX2_undo_0 rfl ?_
  refine zz_get C rfl (by first | assumption | exact zz_us | exact zz_lk1 (by assumption) (by assumption) | exact zz_lk3 (hd _ _ (by decide) (by decide) (by decide)) (by assumption) | exact zz_uf (by assumption) (by assumption) | exact zz_lk3 (zz_xi (by assumption) (by assumption)) (zz_lk1 (by assumption) (by assumption)) | exact zz_lk3 (hd _ _ (by decide) (by decide) (by decide)) (zz_lk3 (hd _ _ (by decide) (by decide) (by decide)) (by assumption)) | (simp only [zz_up]; simp_all; done)) rfl in_X2 3 rfl q1233 (fun _ h => h) (by first | rfl | assumption) dX2_undo_1 ?_
  first | refine zz_ifb_ne (tgt := 10) C dX2_undo_4 (by decide) (fun c4 => ?_) (fun c4 => ?_) | refine zz_if_ne (tgt := 10) C dX2_undo_4 (by decide) (fun c4 => ?_) (fun c4 => ?_)
  · have hk0 : ¬ kp = 0 := fun q => c4 (by rw [q]; rfl)
    obtain ⟨k1, rfl⟩ : ∃ k1, kp = k1 + 1 := ⟨kp - 1, by omega⟩
    first | refine zz_aload_n C dX2_undo_10 rfl ?_ | refine zz_aload_nN C dX2_undo_10 rfl ?_
    refine zz_dup C dX2_undo_11 rfl ?_
    refine zz_get C rfl (by first | assumption | exact zz_us | exact zz_lk1 (by assumption) (by assumption) | exact zz_lk3 (hd _ _ (by decide) (by decide) (by decide)) (by assumption) | exact zz_uf (by assumption) (by assumption) | exact zz_lk3 (zz_xi (by assumption) (by assumption)) (zz_lk1 (by assumption) (by assumption)) | exact zz_lk3 (hd _ _ (by decide) (by decide) (by decide)) (zz_lk3 (hd _ _ (by decide) (by decide) (by decide)) (by assumption)) | (simp only [zz_up]; simp_all; done)) rfl in_X2 3 rfl q1233 (fun _ h => h) (by first | rfl | assumption) dX2_undo_12 ?_
    refine zz_iconst (v := 1) C dX2_undo_15 (by decide) ?_
    refine zz_isub C dX2_undo_16 ?_
    rw [zz_sub1]
    refine zz_put C rfl (by first | assumption | exact zz_us | exact zz_lk1 (by assumption) (by assumption) | exact zz_lk3 (hd _ _ (by decide) (by decide) (by decide)) (by assumption) | exact zz_uf (by assumption) (by assumption) | exact zz_lk3 (zz_xi (by assumption) (by assumption)) (zz_lk1 (by assumption) (by assumption)) | exact zz_lk3 (hd _ _ (by decide) (by decide) (by decide)) (zz_lk3 (hd _ _ (by decide) (by decide) (by decide)) (by assumption)) | (simp only [zz_up]; simp_all; done)) rfl in_X2 tyX2 tyX2_ok nmX2 3 rfl q1233 (fun _ h => h) rfl (tyX2_ok 3 (by decide)) (by first | rfl | exact zz_narZ (by first | exact zz_b01 _ | assumption | decide)) rfl (Nat.le_of_ble_eq_true rfl) dX2_undo_17 ?_
    refine zz_iconst (v := 0) C dX2_undo_20 (by decide) ?_
    refine zz_istore_n C dX2_undo_21 (by decide) ?_
    have L22 : ∀ (n : Nat) (i : Nat) (g : Nat → Int32), i ≤ 324 → 325 ≤ i + n → (∀ k, k < i → g k = hi (324 * k1 + k)) → zz_V D b0 2 p l e ({ frames := 0, cells := 0, slots := 0, locals := 0 } : Jvm.Room) s m ([.ref x] : List Value).toArray below meth c (MQ below (zz_Q D b0 (fun v h' => ∃ a' : Nat → Int32, v = some (.int (if (k1 + 1) = 0 then -5 else nI ((k1 + 1) - 1))) ∧ tw_S D h' x ad a' hi ((k1 + 1) - 1) sl sv pd len ∧ tw_F x ad h h' ∧ ((k1 + 1) = 0 → a' = a) ∧ (0 < (k1 + 1) → ∀ k, k < 324 → a' k = hi (324 * ((k1 + 1) - 1) + k)))) ([.ref x] : List Value).toArray s 0 0 (fun q => b0 ≤ q)) 0 0 (zz_up (zz_up h x (.inr (6, [.ref (ad 0), .ref (ad 1), .ref (ad 2), .int (nI k1), .ref (ad 3), .ref (ad 4), .ref (ad 5), .int (nI len), .ref (ad 6), .int pos, .int wr, .ref (ad 7)]))) (ad 0) (.inl (D.1 100, 324, .inl g))) [(0, .ref x), (1, .int (nI i))] 22 [] := by
      intro n
      induction n with
      | zero =>
        intro i g h1 h2 hg
        exact absurd h2 (by omega)
      | succ n ih =>
        intro i g h1 h2 hg
        have hX1 := (hX.fx k1 len pos wr).u0 g
        clear hx h0 h1a h2a h3a h4a h5a h6 h7
        obtain ⟨hx, h0, h1a, h2a, h3a, h4a, h5a, h6, h7, -⟩ := id hX1
        refine zz_iload_n C dX2_undo_22 rfl ?_
        refine zz_sipush (v := 324) C dX2_undo_23 (by decide) ?_
        refine zz_icmp_ge (tgt := 56) C dX2_undo_26 (by decide) (fun c26 => ?_) (fun c26 => ?_)
        · have hi2 : 324 ≤ i := (nI_leI (a := 324) (by omega) (by omega)).mp c26
          obtain rfl : i = 324 := by omega
          first | refine zz_aload_n C dX2_undo_56 rfl ?_ | refine zz_aload_nN C dX2_undo_56 rfl ?_
          refine zz_get C rfl (by first | assumption | exact zz_us | exact zz_lk1 (by assumption) (by assumption) | exact zz_lk3 (hd _ _ (by decide) (by decide) (by decide)) (by assumption) | exact zz_uf (by assumption) (by assumption) | exact zz_lk3 (zz_xi (by assumption) (by assumption)) (zz_lk1 (by assumption) (by assumption)) | exact zz_lk3 (hd _ _ (by decide) (by decide) (by decide)) (zz_lk3 (hd _ _ (by decide) (by decide) (by decide)) (by assumption)) | (simp only [zz_up]; simp_all; done)) rfl in_X2 3 rfl q1233 (fun _ h => h) (by first | rfl | assumption) dX2_undo_57 ?_
          refine zz_iret C dX2_undo_60 rfl rfl ?_
          first
          | exact ⟨a, rfl, hX.S, tw_F.rf, fun _ => rfl, fun q => absurd q (by omega)⟩
          | exact ⟨g, rfl, ((hX.fx k1 len pos wr).u0 g).S, tw_F.ux.tr (tw_F.up 0 (by decide)), fun q => absurd q (by omega), fun _ => hg⟩
        · have hi2 : i < 324 := Nat.not_le.mp (fun q => c26 (nI_le (a := 324) q (by omega)))
          first | refine zz_aload_n C dX2_undo_29 rfl ?_ | refine zz_aload_nN C dX2_undo_29 rfl ?_
          refine zz_get C rfl (by first | assumption | exact zz_us | exact zz_lk1 (by assumption) (by assumption) | exact zz_lk3 (hd _ _ (by decide) (by decide) (by decide)) (by assumption) | exact zz_uf (by assumption) (by assumption) | exact zz_lk3 (zz_xi (by assumption) (by assumption)) (zz_lk1 (by assumption) (by assumption)) | exact zz_lk3 (hd _ _ (by decide) (by decide) (by decide)) (zz_lk3 (hd _ _ (by decide) (by decide) (by decide)) (by assumption)) | (simp only [zz_up]; simp_all; done)) rfl in_X2 0 rfl q1230 (fun _ h => h) (by first | rfl | assumption) dX2_undo_30 ?_
          refine zz_iload_n C dX2_undo_33 rfl ?_
          first | refine zz_aload_n C dX2_undo_34 rfl ?_ | refine zz_aload_nN C dX2_undo_34 rfl ?_
          refine zz_get C rfl (by first | assumption | exact zz_us | exact zz_lk1 (by assumption) (by assumption) | exact zz_lk3 (hd _ _ (by decide) (by decide) (by decide)) (by assumption) | exact zz_uf (by assumption) (by assumption) | exact zz_lk3 (zz_xi (by assumption) (by assumption)) (zz_lk1 (by assumption) (by assumption)) | exact zz_lk3 (hd _ _ (by decide) (by decide) (by decide)) (zz_lk3 (hd _ _ (by decide) (by decide) (by decide)) (by assumption)) | (simp only [zz_up]; simp_all; done)) rfl in_X2 2 rfl q1232 (fun _ h => h) (by first | rfl | assumption) dX2_undo_35 ?_
          refine zz_sipush (v := 324) C dX2_undo_38 (by decide) ?_
          first | refine zz_aload_n C dX2_undo_41 rfl ?_ | refine zz_aload_nN C dX2_undo_41 rfl ?_
          refine zz_get C rfl (by first | assumption | exact zz_us | exact zz_lk1 (by assumption) (by assumption) | exact zz_lk3 (hd _ _ (by decide) (by decide) (by decide)) (by assumption) | exact zz_uf (by assumption) (by assumption) | exact zz_lk3 (zz_xi (by assumption) (by assumption)) (zz_lk1 (by assumption) (by assumption)) | exact zz_lk3 (hd _ _ (by decide) (by decide) (by decide)) (zz_lk3 (hd _ _ (by decide) (by decide) (by decide)) (by assumption)) | (simp only [zz_up]; simp_all; done)) rfl in_X2 3 rfl q1233 (fun _ h => h) (by first | rfl | assumption) dX2_undo_42 ?_
          refine zz_imul C dX2_undo_45 ?_
          refine zz_iload_n C dX2_undo_46 rfl ?_
          refine zz_iadd C dX2_undo_47 ?_
          refine zz_iald C (by first | assumption | exact zz_us | exact zz_lk1 (by assumption) (by assumption) | exact zz_lk3 (hd _ _ (by decide) (by decide) (by decide)) (by assumption) | exact zz_uf (by assumption) (by assumption) | exact zz_lk3 (zz_xi (by assumption) (by assumption)) (zz_lk1 (by assumption) (by assumption)) | exact zz_lk3 (hd _ _ (by decide) (by decide) (by decide)) (zz_lk3 (hd _ _ (by decide) (by decide) (by decide)) (by assumption)) | (simp only [zz_up]; simp_all; done)) (zz_ixm 324 k1 i) (by omega) (by omega) dX2_undo_48 ?_
          first | refine zz_iast2 C rfl (by omega) (by omega) dX2_undo_49 ?_ | refine zz_iast C (by first | assumption | exact zz_us | exact zz_lk1 (by assumption) (by assumption) | exact zz_lk3 (hd _ _ (by decide) (by decide) (by decide)) (by assumption) | exact zz_uf (by assumption) (by assumption) | exact zz_lk3 (zz_xi (by assumption) (by assumption)) (zz_lk1 (by assumption) (by assumption)) | exact zz_lk3 (hd _ _ (by decide) (by decide) (by decide)) (zz_lk3 (hd _ _ (by decide) (by decide) (by decide)) (by assumption)) | (simp only [zz_up]; simp_all; done)) rfl (by omega) (by omega) dX2_undo_49 ?_
          refine zz_iinc C dX2_undo_50 rfl (by first | exact nI_1 _ | exact (rfl : _ + Int32.ofInt 1 = _ + 1)) (by decide) ?_
          refine zz_goto (tgt := 22) C dX2_undo_53 (by decide) ?_
          exact zz_loc2 (ih (i + 1) _ (by omega) (by omega) (fun k hk => by
            by_cases hki : k = i
            · rw [hki, up_s]
            · rw [up_n hki]; exact hg k (by omega))) ⟨rfl, rfl, trivial⟩
    have L0 := L22 325 0 a (by omega) (by omega) (fun k hk => by omega)
    rw [zz_upsame (hX.fx k1 len pos wr).2.1] at L0
    exact zz_loc2 L0 ⟨rfl, rfl, trivial⟩
  · have hk0 : kp = 0 := (nI_eq (a := kp) (b := 0) (by omega) (by omega)).mp c4
    subst hk0
    refine zz_bipush (v := (-5)) C dX2_undo_7 (by decide) ?_
    refine zz_iret C dX2_undo_9 rfl rfl ?_
    first
    | exact ⟨a, rfl, hX.S, tw_F.rf, fun _ => rfl, fun q => absurd q (by omega)⟩
    | exact ⟨g, rfl, ((hX.fx k1 len pos wr).u0 g).S, tw_F.ux.tr (tw_F.up 0 (by decide)), fun q => absurd q (by omega), fun _ => hg⟩

theorem ct_X2_save {l : Launch} {D : va_G} {b0 : Nat} {h : zz_H} {x : Nat} {ad : Nat → Nat} {a hi : Nat → Int32} {kp : Nat} {sl sv pd : Nat → Int32} {len : Nat} {v0 : Int32} (hS : tw_S D h x ad a hi kp sl sv pd len)  : zz_Ct l D b0 yX2_save cX2_save 3 (some .int) 1 22 0 0 [.ref x, .int v0] h (fun v h' => ∃ (sl' sv' : Nat → Int32), v = some (.int (if qa_in v0 0 1 = true then a 5 else -2)) ∧ tw_S D h' x ad a hi kp sl' sv' pd len ∧ tw_F x ad h h' ∧ (qa_in v0 0 1 = false → sl' = sl ∧ sv' = sv) ∧ (∀ j : Nat, j < 2 → v0 = nI j → sv' = upd sv j 1 ∧ (∀ k, k < 324 → sl' (324 * j + k) = a k) ∧ ∀ k, (k < 324 * j ∨ 324 * j + 324 ≤ k) → sl' k = sl k)) := by
  refine zz_Ct.of zy_X2_save.1 rfl ?_
  intro p e s m below meth c C
  obtain ⟨ah, so, pos, wr, to, hX⟩ := hS
  have hM := hX.M
  obtain ⟨hx, h0, h1a, h2a, h3a, h4a, h5a, h6, h7, hd⟩ := id hX
  refine zz_iload_n C dX2_save_0 rfl ?_
  refine zz_iconst (v := 0) C dX2_save_1 (by decide) ?_
  refine zz_iconst (v := 1) C dX2_save_2 (by decide) ?_
  refine zz_callS C zy_X2_in (ct_X2_in) rfl q1272 rfl rfl rfl rfl rfl dX2_save_3 ⟨Nat.le_of_ble_eq_true rfl, Nat.le_of_ble_eq_true rfl⟩ (fun v hz hp => ?_)
  obtain ⟨rfl, ez⟩ := hp
  obtain rfl := ez.symm
  first | refine zz_ifb_ne (tgt := 12) C dX2_save_6 (by decide) (fun c6 => ?_) (fun c6 => ?_) | refine zz_if_ne (tgt := 12) C dX2_save_6 (by decide) (fun c6 => ?_) (fun c6 => ?_)
  · obtain ⟨j, hj, ej⟩ := qa_ixk 1 (by omega) c6
    refine zz_iconst (v := 0) C dX2_save_12 (by decide) ?_
    refine zz_istore_n C dX2_save_13 (by decide) ?_
    have L14 : ∀ (n : Nat) (i : Nat) (g : Nat → Int32), i ≤ 324 → 325 ≤ i + n → (∀ k, k < i → g (324 * j + k) = a k) → (∀ k, (k < 324 * j ∨ 324 * j + 324 ≤ k) → g k = sl k) → zz_V D b0 3 p l e ({ frames := 1, cells := 0, slots := 0, locals := 22 } : Jvm.Room) s m ([.ref x, .int v0] : List Value).toArray below meth c (MQ below (zz_Q D b0 (fun v h' => ∃ (sl' sv' : Nat → Int32), v = some (.int (if qa_in v0 0 1 = true then a 5 else -2)) ∧ tw_S D h' x ad a hi kp sl' sv' pd len ∧ tw_F x ad h h' ∧ (qa_in v0 0 1 = false → sl' = sl ∧ sv' = sv) ∧ (∀ j : Nat, j < 2 → v0 = nI j → sv' = upd sv j 1 ∧ (∀ k, k < 324 → sl' (324 * j + k) = a k) ∧ ∀ k, (k < 324 * j ∨ 324 * j + 324 ≤ k) → sl' k = sl k))) ([.ref x, .int v0] : List Value).toArray s 0 0 (fun q => b0 ≤ q)) 0 0 (zz_up h (ad 3) (.inl (D.1 100, 648, .inl g))) [(0, .ref x), (1, .int v0), (2, .int (nI i))] 14 [] := by
      intro n
      induction n with
      | zero =>
        intro i g h1 h2 hg hg2
        exact absurd h2 (by omega)
      | succ n ih =>
        intro i g h1 h2 hg hg2
        refine zz_iload_n C dX2_save_14 rfl ?_
        refine zz_sipush (v := 324) C dX2_save_15 (by decide) ?_
        refine zz_icmp_ge (tgt := 45) C dX2_save_18 (by decide) (fun c18 => ?_) (fun c18 => ?_)
        · have hi2 : 324 ≤ i := (nI_leI (a := 324) (by omega) (by omega)).mp c18
          obtain rfl : i = 324 := by omega
          first | refine zz_aload_n C dX2_save_45 rfl ?_ | refine zz_aload_nN C dX2_save_45 rfl ?_
          refine zz_get C rfl (by first | assumption | exact zz_us | exact zz_lk1 (by assumption) (by assumption) | exact zz_lk3 (hd _ _ (by decide) (by decide) (by decide)) (by assumption) | exact zz_uf (by assumption) (by assumption) | exact zz_lk3 (zz_xi (by assumption) (by assumption)) (zz_lk1 (by assumption) (by assumption)) | exact zz_lk3 (hd _ _ (by decide) (by decide) (by decide)) (zz_lk3 (hd _ _ (by decide) (by decide) (by decide)) (by assumption)) | (simp only [zz_up]; simp_all; done)) rfl in_X2 5 rfl q1235 (fun _ h => h) (by first | rfl | assumption) dX2_save_46 ?_
          refine zz_iload_n C dX2_save_49 rfl ?_
          refine zz_iconst (v := 1) C dX2_save_50 (by decide) ?_
          refine zz_zast C (by first | assumption | exact zz_us | exact zz_lk1 (by assumption) (by assumption) | exact zz_lk3 (hd _ _ (by decide) (by decide) (by decide)) (by assumption) | exact zz_uf (by assumption) (by assumption) | exact zz_lk3 (zz_xi (by assumption) (by assumption)) (zz_lk1 (by assumption) (by assumption)) | exact zz_lk3 (hd _ _ (by decide) (by decide) (by decide)) (zz_lk3 (hd _ _ (by decide) (by decide) (by decide)) (by assumption)) | (simp only [zz_up]; simp_all; done)) ej (by omega) (by omega) dX2_save_51 ?_
          first | refine zz_aload_n C dX2_save_52 rfl ?_ | refine zz_aload_nN C dX2_save_52 rfl ?_
          refine zz_get C rfl (by first | assumption | exact zz_us | exact zz_lk1 (by assumption) (by assumption) | exact zz_lk3 (hd _ _ (by decide) (by decide) (by decide)) (by assumption) | exact zz_uf (by assumption) (by assumption) | exact zz_lk3 (zz_xi (by assumption) (by assumption)) (zz_lk1 (by assumption) (by assumption)) | exact zz_lk3 (hd _ _ (by decide) (by decide) (by decide)) (zz_lk3 (hd _ _ (by decide) (by decide) (by decide)) (by assumption)) | (simp only [zz_up]; simp_all; done)) rfl in_X2 0 rfl q1230 (fun _ h => h) (by first | rfl | assumption) dX2_save_53 ?_
          refine zz_iconst (v := nI 5) C dX2_save_56 (by decide) ?_
          refine zz_iald C (by first | assumption | exact zz_us | exact zz_lk1 (by assumption) (by assumption) | exact zz_lk3 (hd _ _ (by decide) (by decide) (by decide)) (by assumption) | exact zz_uf (by assumption) (by assumption) | exact zz_lk3 (zz_xi (by assumption) (by assumption)) (zz_lk1 (by assumption) (by assumption)) | exact zz_lk3 (hd _ _ (by decide) (by decide) (by decide)) (zz_lk3 (hd _ _ (by decide) (by decide) (by decide)) (by assumption)) | (simp only [zz_up]; simp_all; done)) rfl (by omega) (by omega) dX2_save_57 ?_
          refine zz_iret C dX2_save_58 rfl rfl ?_
          first
          | exact ⟨sl, sv, by rw [if_neg (by rw [‹qa_in v0 0 1 = false›]; decide)], hX.S, tw_F.rf, fun _ => ⟨rfl, rfl⟩, fun j hj ej => absurd (show qa_in v0 0 1 = true from by rw [ej]; match j, hj with | 0, _ => rfl | 1, _ => rfl) (by rw [‹qa_in v0 0 1 = false›]; decide)⟩
          | (refine ⟨g, upd sv j 1, by rw [if_pos ‹qa_in v0 0 1 = true›], ((hX.u3 g).u4 _).S, (tw_F.up 3 (by decide)).tr (tw_F.up 4 (by decide)), fun q => absurd q (zz_tf ‹_›), fun j2 hj2 ej2 => ?_⟩
             have ejj : j2 = j := (nI_eq (by omega) (by omega)).mp (ej2.symm.trans ej)
             subst ejj
             exact ⟨rfl, hg, hg2⟩)
        · have hi2 : i < 324 := Nat.not_le.mp (fun q => c18 (nI_le (a := 324) q (by omega)))
          first | refine zz_aload_n C dX2_save_21 rfl ?_ | refine zz_aload_nN C dX2_save_21 rfl ?_
          refine zz_get C rfl (by first | assumption | exact zz_us | exact zz_lk1 (by assumption) (by assumption) | exact zz_lk3 (hd _ _ (by decide) (by decide) (by decide)) (by assumption) | exact zz_uf (by assumption) (by assumption) | exact zz_lk3 (zz_xi (by assumption) (by assumption)) (zz_lk1 (by assumption) (by assumption)) | exact zz_lk3 (hd _ _ (by decide) (by decide) (by decide)) (zz_lk3 (hd _ _ (by decide) (by decide) (by decide)) (by assumption)) | (simp only [zz_up]; simp_all; done)) rfl in_X2 4 rfl q1234 (fun _ h => h) (by first | rfl | assumption) dX2_save_22 ?_
          refine zz_sipush (v := 324) C dX2_save_25 (by decide) ?_
          refine zz_iload_n C dX2_save_28 rfl ?_
          refine zz_imul C dX2_save_29 ?_
          refine zz_iload_n C dX2_save_30 rfl ?_
          refine zz_iadd C dX2_save_31 ?_
          first | refine zz_aload_n C dX2_save_32 rfl ?_ | refine zz_aload_nN C dX2_save_32 rfl ?_
          refine zz_get C rfl (by first | assumption | exact zz_us | exact zz_lk1 (by assumption) (by assumption) | exact zz_lk3 (hd _ _ (by decide) (by decide) (by decide)) (by assumption) | exact zz_uf (by assumption) (by assumption) | exact zz_lk3 (zz_xi (by assumption) (by assumption)) (zz_lk1 (by assumption) (by assumption)) | exact zz_lk3 (hd _ _ (by decide) (by decide) (by decide)) (zz_lk3 (hd _ _ (by decide) (by decide) (by decide)) (by assumption)) | (simp only [zz_up]; simp_all; done)) rfl in_X2 0 rfl q1230 (fun _ h => h) (by first | rfl | assumption) dX2_save_33 ?_
          refine zz_iload_n C dX2_save_36 rfl ?_
          refine zz_iald C (by first | assumption | exact zz_us | exact zz_lk1 (by assumption) (by assumption) | exact zz_lk3 (hd _ _ (by decide) (by decide) (by decide)) (by assumption) | exact zz_uf (by assumption) (by assumption) | exact zz_lk3 (zz_xi (by assumption) (by assumption)) (zz_lk1 (by assumption) (by assumption)) | exact zz_lk3 (hd _ _ (by decide) (by decide) (by decide)) (zz_lk3 (hd _ _ (by decide) (by decide) (by decide)) (by assumption)) | (simp only [zz_up]; simp_all; done)) rfl (by omega) (by omega) dX2_save_37 ?_
          first | refine zz_iast2 C (by rw [ej]; exact zz_ixm 324 j i) (by omega) (by omega) dX2_save_38 ?_ | refine zz_iast C (by first | assumption | exact zz_us | exact zz_lk1 (by assumption) (by assumption) | exact zz_lk3 (hd _ _ (by decide) (by decide) (by decide)) (by assumption) | exact zz_uf (by assumption) (by assumption) | exact zz_lk3 (zz_xi (by assumption) (by assumption)) (zz_lk1 (by assumption) (by assumption)) | exact zz_lk3 (hd _ _ (by decide) (by decide) (by decide)) (zz_lk3 (hd _ _ (by decide) (by decide) (by decide)) (by assumption)) | (simp only [zz_up]; simp_all; done)) (by rw [ej]; exact zz_ixm 324 j i) (by omega) (by omega) dX2_save_38 ?_
          refine zz_iinc C dX2_save_39 rfl (by first | exact nI_1 _ | exact (rfl : _ + Int32.ofInt 1 = _ + 1)) (by decide) ?_
          refine zz_goto (tgt := 14) C dX2_save_42 (by decide) ?_
          exact zz_loc2 (ih (i + 1) _ (by omega) (by omega) (fun k hk => by
            by_cases hki : k = i
            · rw [hki, up_s]
            · rw [up_n (by omega)]; exact hg k (by omega)) (fun k hk => by rw [up_n (by omega)]; exact hg2 k hk)) ⟨rfl, rfl, rfl, trivial⟩
    have L0 := L14 325 0 sl (by omega) (by omega) (fun k hk => by omega) (fun _ _ => rfl)
    rw [zz_upsame h3a] at L0
    exact zz_loc2 L0 ⟨rfl, rfl, rfl, trivial⟩
  · refine zz_bipush (v := (-2)) C dX2_save_9 (by decide) ?_
    refine zz_iret C dX2_save_11 rfl rfl ?_
    first
    | exact ⟨sl, sv, by rw [if_neg (by rw [‹qa_in v0 0 1 = false›]; decide)], hX.S, tw_F.rf, fun _ => ⟨rfl, rfl⟩, fun j hj ej => absurd (show qa_in v0 0 1 = true from by rw [ej]; match j, hj with | 0, _ => rfl | 1, _ => rfl) (by rw [‹qa_in v0 0 1 = false›]; decide)⟩
    | (refine ⟨g, upd sv j 1, by rw [if_pos ‹qa_in v0 0 1 = true›], ((hX.u3 g).u4 _).S, (tw_F.up 3 (by decide)).tr (tw_F.up 4 (by decide)), fun q => absurd q (zz_tf ‹_›), fun j2 hj2 ej2 => ?_⟩
       have ejj : j2 = j := (nI_eq (by omega) (by omega)).mp (ej2.symm.trans ej)
       subst ejj
       exact ⟨rfl, hg, hg2⟩)

theorem ct_X2_restore {l : Launch} {D : va_G} {b0 : Nat} {h : zz_H} {x : Nat} {ad : Nat → Nat} {a hi : Nat → Int32} {kp : Nat} {sl sv pd : Nat → Int32} {len : Nat} (hkp : kp ≤ 6) {v0 : Int32} (hS : tw_S D h x ad a hi kp sl sv pd len)  : zz_Ct l D b0 yX2_restore cX2_restore 3 (some .int) 1 22 0 0 [.ref x, .int v0] h (fun v h' => ∃ (a' hi' : Nat → Int32) (kp' : Nat), v = some (.int (if qa_in v0 0 1 = false then -2 else if sv v0.toNatClampNeg = 0 then -5 else a' 5)) ∧ tw_S D h' x ad a' hi' kp' sl sv pd len ∧ tw_F x ad h h' ∧ qa_rc (qa_in v0 0 1 && !decide (sv v0.toNatClampNeg = 0)) hi kp a hi' kp' ∧ ((qa_in v0 0 1 && !decide (sv v0.toNatClampNeg = 0)) = false → a' = a) ∧ (∀ j : Nat, j < 2 → v0 = nI j → ¬ sv j = 0 → ∀ k, k < 324 → a' k = sl (324 * j + k))) := by
  refine zz_Ct.of zy_X2_restore.1 rfl ?_
  intro p e s m below meth c C
  obtain ⟨ah, so, pos, wr, to, hX⟩ := hS
  have hM := hX.M
  obtain ⟨hx, h0, h1a, h2a, h3a, h4a, h5a, h6, h7, hd⟩ := id hX
  refine zz_iload_n C dX2_restore_0 rfl ?_
  refine zz_iconst (v := 0) C dX2_restore_1 (by decide) ?_
  refine zz_iconst (v := 1) C dX2_restore_2 (by decide) ?_
  refine zz_callS C zy_X2_in (ct_X2_in) rfl q1272 rfl rfl rfl rfl rfl dX2_restore_3 ⟨Nat.le_of_ble_eq_true rfl, Nat.le_of_ble_eq_true rfl⟩ (fun v hz hp => ?_)
  obtain ⟨rfl, ez⟩ := hp
  obtain rfl := ez.symm
  first | refine zz_ifb_ne (tgt := 12) C dX2_restore_6 (by decide) (fun c6 => ?_) (fun c6 => ?_) | refine zz_if_ne (tgt := 12) C dX2_restore_6 (by decide) (fun c6 => ?_) (fun c6 => ?_)
  · obtain ⟨j, hj, ej⟩ := qa_ixk 1 (by omega) c6
    have ejn : v0.toNatClampNeg = j := by rw [ej]; exact nI_clamp (by omega)
    first | refine zz_aload_n C dX2_restore_12 rfl ?_ | refine zz_aload_nN C dX2_restore_12 rfl ?_
    refine zz_get C rfl (by first | assumption | exact zz_us | exact zz_lk1 (by assumption) (by assumption) | exact zz_lk3 (hd _ _ (by decide) (by decide) (by decide)) (by assumption) | exact zz_uf (by assumption) (by assumption) | exact zz_lk3 (zz_xi (by assumption) (by assumption)) (zz_lk1 (by assumption) (by assumption)) | exact zz_lk3 (hd _ _ (by decide) (by decide) (by decide)) (zz_lk3 (hd _ _ (by decide) (by decide) (by decide)) (by assumption)) | (simp only [zz_up]; simp_all; done)) rfl in_X2 5 rfl q1235 (fun _ h => h) (by first | rfl | assumption) dX2_restore_13 ?_
    refine zz_iload_n C dX2_restore_16 rfl ?_
    refine zz_zald C (by first | assumption | exact zz_us | exact zz_lk1 (by assumption) (by assumption) | exact zz_lk3 (hd _ _ (by decide) (by decide) (by decide)) (by assumption) | exact zz_uf (by assumption) (by assumption) | exact zz_lk3 (zz_xi (by assumption) (by assumption)) (zz_lk1 (by assumption) (by assumption)) | exact zz_lk3 (hd _ _ (by decide) (by decide) (by decide)) (zz_lk3 (hd _ _ (by decide) (by decide) (by decide)) (by assumption)) | (simp only [zz_up]; simp_all; done)) ej (by omega) (by omega) dX2_restore_17 ?_
    first | refine zz_ifb_ne (tgt := 24) C dX2_restore_18 (by decide) (fun c18 => ?_) (fun c18 => ?_) | refine zz_if_ne (tgt := 24) C dX2_restore_18 (by decide) (fun c18 => ?_) (fun c18 => ?_)
    · first | refine zz_aload_n C dX2_restore_24 rfl ?_ | refine zz_aload_nN C dX2_restore_24 rfl ?_
      refine zz_callV C zy_X2_looks (ct_X2_looks hX) rfl q1279 (by first | assumption | exact zz_us | exact zz_lk1 (by assumption) (by assumption) | exact zz_lk3 (hd _ _ (by decide) (by decide) (by decide)) (by assumption) | exact zz_uf (by assumption) (by assumption) | exact zz_lk3 (zz_xi (by assumption) (by assumption)) (zz_lk1 (by assumption) (by assumption)) | exact zz_lk3 (hd _ _ (by decide) (by decide) (by decide)) (zz_lk3 (hd _ _ (by decide) (by decide) (by decide)) (by assumption)) | (simp only [zz_up]; simp_all; done)) rfl rfl rfl rfl rfl rfl dX2_restore_25 ⟨Nat.le_of_ble_eq_true rfl, Nat.le_of_ble_eq_true rfl⟩ (fun v hz hp => ?_)
      obtain ⟨g, ⟨rfl, hg⟩, ez⟩ := hp
      have hX1 := hX.u1 g
      have hF1 : tw_F x ad h _ := tw_F.up (h := h) (e := .inl (D.1 100, 324, .inl g)) 1 (by decide)
      rw [← ez] at hX1 hF1
      have hx1 := hX1.1
      first | refine zz_aload_n C dX2_restore_28 rfl ?_ | refine zz_aload_nN C dX2_restore_28 rfl ?_
      refine zz_callV C zy_X2_records (ct_X2_records hkp hX1) rfl q1283 hx1 rfl rfl rfl rfl rfl rfl dX2_restore_29 ⟨Nat.le_of_ble_eq_true rfl, Nat.le_of_ble_eq_true rfl⟩ (fun v hz hp => ?_)
      obtain ⟨hi', kp', rfl, hX2, hF2, hR2⟩ := hp
      clear hx h0 h1a h2a h3a h4a h5a h6 h7 hx1
      obtain ⟨hx, h0, h1a, h2a, h3a, h4a, h5a, h6, h7, -⟩ := id hX2
      refine zz_iconst (v := 0) C dX2_restore_32 (by decide) ?_
      refine zz_istore_n C dX2_restore_33 (by decide) ?_
      have L34 : ∀ (n : Nat) (i : Nat) (g2 : Nat → Int32), i ≤ 324 → 325 ≤ i + n → (∀ k, k < i → g2 k = sl (324 * j + k)) → zz_V D b0 3 p l e ({ frames := 1, cells := 0, slots := 0, locals := 22 } : Jvm.Room) s m ([.ref x, .int v0] : List Value).toArray below meth c (MQ below (zz_Q D b0 (fun v h' => ∃ (a' hi' : Nat → Int32) (kp' : Nat), v = some (.int (if qa_in v0 0 1 = false then -2 else if sv v0.toNatClampNeg = 0 then -5 else a' 5)) ∧ tw_S D h' x ad a' hi' kp' sl sv pd len ∧ tw_F x ad h h' ∧ qa_rc (qa_in v0 0 1 && !decide (sv v0.toNatClampNeg = 0)) hi kp a hi' kp' ∧ ((qa_in v0 0 1 && !decide (sv v0.toNatClampNeg = 0)) = false → a' = a) ∧ (∀ j : Nat, j < 2 → v0 = nI j → ¬ sv j = 0 → ∀ k, k < 324 → a' k = sl (324 * j + k)))) ([.ref x, .int v0] : List Value).toArray s 0 0 (fun q => b0 ≤ q)) 0 0 (zz_up hz (ad 0) (.inl (D.1 100, 324, .inl g2))) [(0, .ref x), (1, .int v0), (2, .int (nI i))] 34 [] := by
        intro n
        induction n with
        | zero =>
          intro i g2 h1 h2 hg2
          exact absurd h2 (by omega)
        | succ n ih =>
          intro i g2 h1 h2 hg2
          refine zz_iload_n C dX2_restore_34 rfl ?_
          refine zz_sipush (v := 324) C dX2_restore_35 (by decide) ?_
          refine zz_icmp_ge (tgt := 65) C dX2_restore_38 (by decide) (fun c38 => ?_) (fun c38 => ?_)
          · have hi2 : 324 ≤ i := (nI_leI (a := 324) (by omega) (by omega)).mp c38
            obtain rfl : i = 324 := by omega
            first | refine zz_aload_n C dX2_restore_65 rfl ?_ | refine zz_aload_nN C dX2_restore_65 rfl ?_
            refine zz_get C rfl (by first | assumption | exact zz_us | exact zz_lk1 (by assumption) (by assumption) | exact zz_lk3 (hd _ _ (by decide) (by decide) (by decide)) (by assumption) | exact zz_uf (by assumption) (by assumption) | exact zz_lk3 (zz_xi (by assumption) (by assumption)) (zz_lk1 (by assumption) (by assumption)) | exact zz_lk3 (hd _ _ (by decide) (by decide) (by decide)) (zz_lk3 (hd _ _ (by decide) (by decide) (by decide)) (by assumption)) | (simp only [zz_up]; simp_all; done)) rfl in_X2 0 rfl q1230 (fun _ h => h) (by first | rfl | assumption) dX2_restore_66 ?_
            refine zz_iconst (v := nI 5) C dX2_restore_69 (by decide) ?_
            refine zz_iald C (by first | assumption | exact zz_us | exact zz_lk1 (by assumption) (by assumption) | exact zz_lk3 (hd _ _ (by decide) (by decide) (by decide)) (by assumption) | exact zz_uf (by assumption) (by assumption) | exact zz_lk3 (zz_xi (by assumption) (by assumption)) (zz_lk1 (by assumption) (by assumption)) | exact zz_lk3 (hd _ _ (by decide) (by decide) (by decide)) (zz_lk3 (hd _ _ (by decide) (by decide) (by decide)) (by assumption)) | (simp only [zz_up]; simp_all; done)) rfl (by omega) (by omega) dX2_restore_70 ?_
            refine zz_iret C dX2_restore_71 rfl rfl ?_
            first
            | (have c6 : qa_in v0 0 1 = false := c6
               exact ⟨a, hi, kp, by rw [if_pos c6], hX.S, tw_F.rf, qa_rc_f (by rw [c6]; rfl), fun _ => rfl, fun j hj ej => absurd (show qa_in v0 0 1 = true from by rw [ej]; match j, hj with | 0, _ => rfl | 1, _ => rfl) (by rw [c6]; decide)⟩)
            | (have c18 : sv j = 0 := c18
               exact ⟨a, hi, kp, by rw [if_neg (zz_tf c6), ejn, if_pos c18], hX.S, tw_F.rf, qa_rc_f (by rw [ejn, c18]; simp), fun _ => rfl, fun j2 hj2 ej2 hn => absurd ((nI_eq (by omega) (by omega)).mp (ej2.symm.trans ej)) (fun q => hn (by rw [q]; exact c18))⟩)
            | (have c18 : ¬ sv j = 0 := c18
               refine ⟨g2, hi', kp', by rw [if_neg (zz_tf c6), ejn, if_neg c18], (hX2.u0 g2).S, hF1.tr (hF2.tr (tw_F.up 0 (by decide))), qa_rc_t (by rw [c6, ejn]; simp [c18]) (hR2.of hg), fun q => absurd q (by rw [c6, ejn]; simp [c18]), fun j2 hj2 ej2 hn => ?_⟩
               have ejj : j2 = j := (nI_eq (by omega) (by omega)).mp (ej2.symm.trans ej)
               subst ejj
               exact hg2)
          · have hi2 : i < 324 := Nat.not_le.mp (fun q => c38 (nI_le (a := 324) q (by omega)))
            first | refine zz_aload_n C dX2_restore_41 rfl ?_ | refine zz_aload_nN C dX2_restore_41 rfl ?_
            refine zz_get C rfl (by first | assumption | exact zz_us | exact zz_lk1 (by assumption) (by assumption) | exact zz_lk3 (hd _ _ (by decide) (by decide) (by decide)) (by assumption) | exact zz_uf (by assumption) (by assumption) | exact zz_lk3 (zz_xi (by assumption) (by assumption)) (zz_lk1 (by assumption) (by assumption)) | exact zz_lk3 (hd _ _ (by decide) (by decide) (by decide)) (zz_lk3 (hd _ _ (by decide) (by decide) (by decide)) (by assumption)) | (simp only [zz_up]; simp_all; done)) rfl in_X2 0 rfl q1230 (fun _ h => h) (by first | rfl | assumption) dX2_restore_42 ?_
            refine zz_iload_n C dX2_restore_45 rfl ?_
            first | refine zz_aload_n C dX2_restore_46 rfl ?_ | refine zz_aload_nN C dX2_restore_46 rfl ?_
            refine zz_get C rfl (by first | assumption | exact zz_us | exact zz_lk1 (by assumption) (by assumption) | exact zz_lk3 (hd _ _ (by decide) (by decide) (by decide)) (by assumption) | exact zz_uf (by assumption) (by assumption) | exact zz_lk3 (zz_xi (by assumption) (by assumption)) (zz_lk1 (by assumption) (by assumption)) | exact zz_lk3 (hd _ _ (by decide) (by decide) (by decide)) (zz_lk3 (hd _ _ (by decide) (by decide) (by decide)) (by assumption)) | (simp only [zz_up]; simp_all; done)) rfl in_X2 4 rfl q1234 (fun _ h => h) (by first | rfl | assumption) dX2_restore_47 ?_
            refine zz_sipush (v := 324) C dX2_restore_50 (by decide) ?_
            refine zz_iload_n C dX2_restore_53 rfl ?_
            refine zz_imul C dX2_restore_54 ?_
            refine zz_iload_n C dX2_restore_55 rfl ?_
            refine zz_iadd C dX2_restore_56 ?_
            refine zz_iald C (by first | assumption | exact zz_us | exact zz_lk1 (by assumption) (by assumption) | exact zz_lk3 (hd _ _ (by decide) (by decide) (by decide)) (by assumption) | exact zz_uf (by assumption) (by assumption) | exact zz_lk3 (zz_xi (by assumption) (by assumption)) (zz_lk1 (by assumption) (by assumption)) | exact zz_lk3 (hd _ _ (by decide) (by decide) (by decide)) (zz_lk3 (hd _ _ (by decide) (by decide) (by decide)) (by assumption)) | (simp only [zz_up]; simp_all; done)) (by rw [ej]; exact zz_ixm 324 j i) (by omega) (by omega) dX2_restore_57 ?_
            first | refine zz_iast2 C rfl (by omega) (by omega) dX2_restore_58 ?_ | refine zz_iast C (by first | assumption | exact zz_us | exact zz_lk1 (by assumption) (by assumption) | exact zz_lk3 (hd _ _ (by decide) (by decide) (by decide)) (by assumption) | exact zz_uf (by assumption) (by assumption) | exact zz_lk3 (zz_xi (by assumption) (by assumption)) (zz_lk1 (by assumption) (by assumption)) | exact zz_lk3 (hd _ _ (by decide) (by decide) (by decide)) (zz_lk3 (hd _ _ (by decide) (by decide) (by decide)) (by assumption)) | (simp only [zz_up]; simp_all; done)) rfl (by omega) (by omega) dX2_restore_58 ?_
            refine zz_iinc C dX2_restore_59 rfl (by first | exact nI_1 _ | exact (rfl : _ + Int32.ofInt 1 = _ + 1)) (by decide) ?_
            refine zz_goto (tgt := 34) C dX2_restore_62 (by decide) ?_
            exact zz_loc2 (ih (i + 1) _ (by omega) (by omega) (fun k hk => by
              by_cases hki : k = i
              · rw [hki, up_s]
              · rw [up_n hki]; exact hg2 k (by omega))) ⟨rfl, rfl, rfl, trivial⟩
      have L0 := L34 325 0 a (by omega) (by omega) (fun k hk => by omega)
      rw [zz_upsame h0] at L0
      exact zz_loc2 L0 ⟨rfl, rfl, rfl, trivial⟩
    · refine zz_bipush (v := (-5)) C dX2_restore_21 (by decide) ?_
      refine zz_iret C dX2_restore_23 rfl rfl ?_
      first
      | (have c6 : qa_in v0 0 1 = false := c6
         exact ⟨a, hi, kp, by rw [if_pos c6], hX.S, tw_F.rf, qa_rc_f (by rw [c6]; rfl), fun _ => rfl, fun j hj ej => absurd (show qa_in v0 0 1 = true from by rw [ej]; match j, hj with | 0, _ => rfl | 1, _ => rfl) (by rw [c6]; decide)⟩)
      | (have c18 : sv j = 0 := c18
         exact ⟨a, hi, kp, by rw [if_neg (zz_tf c6), ejn, if_pos c18], hX.S, tw_F.rf, qa_rc_f (by rw [ejn, c18]; simp), fun _ => rfl, fun j2 hj2 ej2 hn => absurd ((nI_eq (by omega) (by omega)).mp (ej2.symm.trans ej)) (fun q => hn (by rw [q]; exact c18))⟩)
      | (have c18 : ¬ sv j = 0 := c18
         refine ⟨g2, hi', kp', by rw [if_neg (zz_tf c6), ejn, if_neg c18], (hX2.u0 g2).S, hF1.tr (hF2.tr (tw_F.up 0 (by decide))), qa_rc_t (by rw [c6, ejn]; simp [c18]) (hR2.of hg), fun q => absurd q (by rw [c6, ejn]; simp [c18]), fun j2 hj2 ej2 hn => ?_⟩
         have ejj : j2 = j := (nI_eq (by omega) (by omega)).mp (ej2.symm.trans ej)
         subst ejj
         exact hg2)
  · refine zz_bipush (v := (-2)) C dX2_restore_9 (by decide) ?_
    refine zz_iret C dX2_restore_11 rfl rfl ?_
    first
    | (have c6 : qa_in v0 0 1 = false := c6
       exact ⟨a, hi, kp, by rw [if_pos c6], hX.S, tw_F.rf, qa_rc_f (by rw [c6]; rfl), fun _ => rfl, fun j hj ej => absurd (show qa_in v0 0 1 = true from by rw [ej]; match j, hj with | 0, _ => rfl | 1, _ => rfl) (by rw [c6]; decide)⟩)
    | (have c18 : sv j = 0 := c18
       exact ⟨a, hi, kp, by rw [if_neg (zz_tf c6), ejn, if_pos c18], hX.S, tw_F.rf, qa_rc_f (by rw [ejn, c18]; simp), fun _ => rfl, fun j2 hj2 ej2 hn => absurd ((nI_eq (by omega) (by omega)).mp (ej2.symm.trans ej)) (fun q => hn (by rw [q]; exact c18))⟩)
    | (have c18 : ¬ sv j = 0 := c18
       refine ⟨g2, hi', kp', by rw [if_neg (zz_tf c6), ejn, if_neg c18], (hX2.u0 g2).S, hF1.tr (hF2.tr (tw_F.up 0 (by decide))), qa_rc_t (by rw [c6, ejn]; simp [c18]) (hR2.of hg), fun q => absurd q (by rw [c6, ejn]; simp [c18]), fun j2 hj2 ej2 hn => ?_⟩
       have ejj : j2 = j := (nI_eq (by omega) (by omega)).mp (ej2.symm.trans ej)
       subst ejj
       exact hg2)

