/-! the twin: shares, best places, bits -/
theorem ct_X2_share {l : Launch} {D : va_G} {b0 : Nat} {h : zz_H} {x s0 : Nat} {a : Nat → Int32} {v0 v1 v2 : Int32} (nb : Nat) (h5 : a 5 = nI nb) (hnb : nb ≤ 24) (hw : qa_wk a nb) (hlk : qa_lk a) (hm : v0 = -6 ∨ ∃ b : Nat, b < nb ∧ v0 = nI b) (lr : Nat) (hv1 : v1 = nI lr) (hl : lr < 3) (hM : tw_M D h x s0 a) : zz_Ct l D b0 yX2_share cX2_share 6 (some .float) 3 72 0 0 [.ref x, .int v0, .int v1, .int v2] h (fun v h' => v = some (.float (qa_sh a nb v0 v1 v2)) ∧ h' = h) := by
  refine zz_Ct.of zy_X2_share.1 rfl ?_
  intro p e s m below meth c C
  have hM0 := hM
  obtain ⟨fs, hx, hf0, hs⟩ := hM0
  have eln : v1.toNatClampNeg = lr := by rw [hv1]; exact nI_clamp (by omega)
  first | refine zz_aload_n C dX2_share_0 rfl ?_ | refine zz_aload_nN C dX2_share_0 rfl ?_
  refine zz_iload_n C dX2_share_1 rfl ?_
  refine zz_iconst (v := 0) C dX2_share_2 (by decide) ?_
  refine zz_iload_n C dX2_share_3 rfl ?_
  refine zz_iload_n C dX2_share_4 rfl ?_
  refine zz_callV C zy_X2_axle (ct_X2_axle (c0 := false) nb h5 hnb hw hm hM) rfl q1419 (by first | assumption | exact zz_us | exact zz_lk1 (by assumption) (by assumption) | exact zz_lk3 (hd _ _ (by decide) (by decide) (by decide)) (by assumption) | exact zz_uf (by assumption) (by assumption) | exact zz_lk3 (zz_xi (by assumption) (by assumption)) (zz_lk1 (by assumption) (by assumption)) | exact zz_lk3 (hd _ _ (by decide) (by decide) (by decide)) (zz_lk3 (hd _ _ (by decide) (by decide) (by decide)) (by assumption)) | (simp only [zz_up]; simp_all; done)) rfl rfl rfl rfl rfl rfl dX2_share_5 ⟨Nat.le_of_ble_eq_true rfl, Nat.le_of_ble_eq_true rfl⟩ (fun v hz hp => ?_)
  obtain ⟨rfl, ez⟩ := hp
  obtain rfl := ez.symm
  first | refine zz_aload_n C dX2_share_8 rfl ?_ | refine zz_aload_nN C dX2_share_8 rfl ?_
  refine zz_get C rfl (by first | assumption | exact zz_us | exact zz_lk1 (by assumption) (by assumption) | exact zz_lk3 (hd _ _ (by decide) (by decide) (by decide)) (by assumption) | exact zz_uf (by assumption) (by assumption) | exact zz_lk3 (zz_xi (by assumption) (by assumption)) (zz_lk1 (by assumption) (by assumption)) | exact zz_lk3 (hd _ _ (by decide) (by decide) (by decide)) (zz_lk3 (hd _ _ (by decide) (by decide) (by decide)) (by assumption)) | (simp only [zz_up]; simp_all; done)) rfl in_X2 0 rfl q1230 (fun _ h => h) (by first | rfl | assumption) dX2_share_9 ?_
  refine zz_iload_n C dX2_share_12 rfl ?_
  refine zz_iconst (v := nI 0) C dX2_share_13 (by decide) ?_
  refine zz_callS C zy_X2_ofLorryAt (ct_X2_ofLorryAt lr 0 hv1 rfl) rfl q1227 rfl rfl rfl rfl rfl dX2_share_14 ⟨Nat.le_of_ble_eq_true rfl, Nat.le_of_ble_eq_true rfl⟩ (fun v hz hp => ?_)
  obtain ⟨rfl, ez⟩ := hp
  obtain rfl := ez.symm
  refine zz_iald C (by first | assumption | exact zz_us | exact zz_lk1 (by assumption) (by assumption) | exact zz_lk3 (hd _ _ (by decide) (by decide) (by decide)) (by assumption) | exact zz_uf (by assumption) (by assumption) | exact zz_lk3 (zz_xi (by assumption) (by assumption)) (zz_lk1 (by assumption) (by assumption)) | exact zz_lk3 (hd _ _ (by decide) (by decide) (by decide)) (zz_lk3 (hd _ _ (by decide) (by decide) (by decide)) (by assumption)) | (simp only [zz_up]; simp_all; done)) rfl (by omega) (by omega) dX2_share_17 ?_
  refine zz_i2f C dX2_share_18 ?_
  refine zz_fdiv C dX2_share_19 (qa_sh1_k (rear := false) hnb hw hlk hm hl (by decide)).nn ?_
  refine zz_fstore C dX2_share_20 (by decide) ?_
  first | refine zz_aload_n C dX2_share_22 rfl ?_ | refine zz_aload_nN C dX2_share_22 rfl ?_
  refine zz_iload_n C dX2_share_23 rfl ?_
  refine zz_iconst (v := 1) C dX2_share_24 (by decide) ?_
  refine zz_iload_n C dX2_share_25 rfl ?_
  refine zz_iload_n C dX2_share_26 rfl ?_
  refine zz_callV C zy_X2_axle (ct_X2_axle (c0 := true) nb h5 hnb hw hm hM) rfl q1419 (by first | assumption | exact zz_us | exact zz_lk1 (by assumption) (by assumption) | exact zz_lk3 (hd _ _ (by decide) (by decide) (by decide)) (by assumption) | exact zz_uf (by assumption) (by assumption) | exact zz_lk3 (zz_xi (by assumption) (by assumption)) (zz_lk1 (by assumption) (by assumption)) | exact zz_lk3 (hd _ _ (by decide) (by decide) (by decide)) (zz_lk3 (hd _ _ (by decide) (by decide) (by decide)) (by assumption)) | (simp only [zz_up]; simp_all; done)) rfl rfl rfl rfl rfl rfl dX2_share_27 ⟨Nat.le_of_ble_eq_true rfl, Nat.le_of_ble_eq_true rfl⟩ (fun v hz hp => ?_)
  obtain ⟨rfl, ez⟩ := hp
  obtain rfl := ez.symm
  first | refine zz_aload_n C dX2_share_30 rfl ?_ | refine zz_aload_nN C dX2_share_30 rfl ?_
  refine zz_get C rfl (by first | assumption | exact zz_us | exact zz_lk1 (by assumption) (by assumption) | exact zz_lk3 (hd _ _ (by decide) (by decide) (by decide)) (by assumption) | exact zz_uf (by assumption) (by assumption) | exact zz_lk3 (zz_xi (by assumption) (by assumption)) (zz_lk1 (by assumption) (by assumption)) | exact zz_lk3 (hd _ _ (by decide) (by decide) (by decide)) (zz_lk3 (hd _ _ (by decide) (by decide) (by decide)) (by assumption)) | (simp only [zz_up]; simp_all; done)) rfl in_X2 0 rfl q1230 (fun _ h => h) (by first | rfl | assumption) dX2_share_31 ?_
  refine zz_iload_n C dX2_share_34 rfl ?_
  refine zz_iconst (v := nI 1) C dX2_share_35 (by decide) ?_
  refine zz_callS C zy_X2_ofLorryAt (ct_X2_ofLorryAt lr 1 hv1 rfl) rfl q1227 rfl rfl rfl rfl rfl dX2_share_36 ⟨Nat.le_of_ble_eq_true rfl, Nat.le_of_ble_eq_true rfl⟩ (fun v hz hp => ?_)
  obtain ⟨rfl, ez⟩ := hp
  obtain rfl := ez.symm
  refine zz_iald C (by first | assumption | exact zz_us | exact zz_lk1 (by assumption) (by assumption) | exact zz_lk3 (hd _ _ (by decide) (by decide) (by decide)) (by assumption) | exact zz_uf (by assumption) (by assumption) | exact zz_lk3 (zz_xi (by assumption) (by assumption)) (zz_lk1 (by assumption) (by assumption)) | exact zz_lk3 (hd _ _ (by decide) (by decide) (by decide)) (zz_lk3 (hd _ _ (by decide) (by decide) (by decide)) (by assumption)) | (simp only [zz_up]; simp_all; done)) rfl (by omega) (by omega) dX2_share_39 ?_
  refine zz_i2f C dX2_share_40 ?_
  refine zz_fdiv C dX2_share_41 (qa_sh1_k (rear := true) hnb hw hlk hm hl (by decide)).nn ?_
  refine zz_fstore C dX2_share_42 (by decide) ?_
  refine zz_fload C dX2_share_44 rfl ?_
  refine zz_fload C dX2_share_46 rfl ?_
  refine zz_fcmp C dX2_share_48 ?_
  refine zz_if_le (tgt := 57) C dX2_share_49 (by decide) (fun c49 => ?_) (fun c49 => ?_)
  · refine zz_fload C dX2_share_57 rfl ?_
    refine zz_fret C dX2_share_59 rfl rfl ?_
    exact ⟨by unfold qa_sh; rw [eln]; first | rw [if_pos c49] | rw [if_neg c49], rfl⟩
  · refine zz_fload C dX2_share_52 rfl ?_
    refine zz_goto (tgt := 59) C dX2_share_54 (by decide) ?_
    refine zz_fret C dX2_share_59 rfl rfl ?_
    exact ⟨by unfold qa_sh; rw [eln]; first | rw [if_pos c49] | rw [if_neg c49], rfl⟩

theorem ct_X2_bestPlace {l : Launch} {D : va_G} {b0 : Nat} {h : zz_H} {x s0 : Nat} {a : Nat → Int32} {v0 v1 : Int32} (nb : Nat) (h5 : a 5 = nI nb) (hnb : nb ≤ 24) (hw : qa_wk a nb) (hlk : qa_lk a) (hM : tw_M D h x s0 a) : zz_Ct l D b0 yX2_bestPlace cX2_bestPlace 6 (some .int) 4 97 0 0 [.ref x, .int v0, .int v1] h (fun v h' => v = some (.int (op_bp a nb v0 v1)) ∧ h' = h) := by
  refine zz_Ct.of zy_X2_bestPlace.1 rfl ?_
  intro p e s m below meth c C
  have hM0 := hM
  obtain ⟨fs, hx, hf0, hs⟩ := hM0
  first | refine zz_aload_n C dX2_bestPlace_0 rfl ?_ | refine zz_aload_nN C dX2_bestPlace_0 rfl ?_
  refine zz_iload_n C dX2_bestPlace_1 rfl ?_
  refine zz_callV C zy_X2_isBlock (ct_X2_isBlock hM) rfl q1321 (by first | assumption | exact zz_us | exact zz_lk1 (by assumption) (by assumption) | exact zz_lk3 (hd _ _ (by decide) (by decide) (by decide)) (by assumption) | exact zz_uf (by assumption) (by assumption) | exact zz_lk3 (zz_xi (by assumption) (by assumption)) (zz_lk1 (by assumption) (by assumption)) | exact zz_lk3 (hd _ _ (by decide) (by decide) (by decide)) (zz_lk3 (hd _ _ (by decide) (by decide) (by decide)) (by assumption)) | (simp only [zz_up]; simp_all; done)) rfl rfl rfl rfl rfl rfl dX2_bestPlace_2 ⟨Nat.le_of_ble_eq_true rfl, Nat.le_of_ble_eq_true rfl⟩ (fun v hz hp => ?_)
  obtain ⟨rfl, ez⟩ := hp
  obtain rfl := ez.symm
  first | refine zz_ifb_eq (tgt := 15) C dX2_bestPlace_5 (by decide) (fun c5 => ?_) (fun c5 => ?_) | refine zz_if_eq (tgt := 15) C dX2_bestPlace_5 (by decide) (fun c5 => ?_) (fun c5 => ?_)
  · refine zz_iconst (v := (-1)) C dX2_bestPlace_15 (by decide) ?_
    refine zz_iret C dX2_bestPlace_16 rfl rfl ?_
    refine ⟨?_, rfl⟩
    unfold op_bp
    first
    | rw [if_pos ‹_›]
    | rw [if_neg (zz_tf ‹qa_in v0 0 (a 5 - 1) = true›), if_pos c12]
    | rw [if_neg (zz_tf ‹qa_in v0 0 (a 5 - 1) = true›), if_neg (zz_tf c12), ebn, if_pos c22]
    | rw [if_neg (zz_tf ‹qa_in v0 0 (a 5 - 1) = true›), if_neg (zz_tf c12), ebn, if_neg (zz_tf c22)]
  · obtain ⟨b, hb, ev⟩ := qa_ix (n := nb) (by omega) (by rw [← h5]; assumption)
    have ebn : v0.toNatClampNeg = b := by rw [ev]; exact nI_clamp (by omega)
    have hm : v0 = -6 ∨ ∃ b : Nat, b < nb ∧ v0 = nI b := Or.inr ⟨b, hb, ev⟩
    refine zz_iload_n C dX2_bestPlace_8 rfl ?_
    refine zz_callS C zy_X2_isLorry (ct_X2_isLorry) rfl q1380 rfl rfl rfl rfl rfl dX2_bestPlace_9 ⟨Nat.le_of_ble_eq_true rfl, Nat.le_of_ble_eq_true rfl⟩ (fun v hz hp => ?_)
    obtain ⟨rfl, ez⟩ := hp
    obtain rfl := ez.symm
    first | refine zz_ifb_ne (tgt := 17) C dX2_bestPlace_12 (by decide) (fun c12 => ?_) (fun c12 => ?_) | refine zz_if_ne (tgt := 17) C dX2_bestPlace_12 (by decide) (fun c12 => ?_) (fun c12 => ?_)
    · obtain ⟨lr, hlr, ev1⟩ := qa_ixk 2 (by omega) c12
      have eln : v1.toNatClampNeg = lr := by rw [ev1]; exact nI_clamp (by omega)
      first | refine zz_aload_n C dX2_bestPlace_17 rfl ?_ | refine zz_aload_nN C dX2_bestPlace_17 rfl ?_
      refine zz_iload_n C dX2_bestPlace_18 rfl ?_
      refine zz_callV C zy_X2_isHere (ct_X2_isHere b ev (by omega) hM) rfl q1329 (by first | assumption | exact zz_us | exact zz_lk1 (by assumption) (by assumption) | exact zz_lk3 (hd _ _ (by decide) (by decide) (by decide)) (by assumption) | exact zz_uf (by assumption) (by assumption) | exact zz_lk3 (zz_xi (by assumption) (by assumption)) (zz_lk1 (by assumption) (by assumption)) | exact zz_lk3 (hd _ _ (by decide) (by decide) (by decide)) (zz_lk3 (hd _ _ (by decide) (by decide) (by decide)) (by assumption)) | (simp only [zz_up]; simp_all; done)) rfl rfl rfl rfl rfl rfl dX2_bestPlace_19 ⟨Nat.le_of_ble_eq_true rfl, Nat.le_of_ble_eq_true rfl⟩ (fun v hz hp => ?_)
      obtain ⟨rfl, ez⟩ := hp
      obtain rfl := ez.symm
      first | refine zz_ifb_ne (tgt := 28) C dX2_bestPlace_22 (by decide) (fun c22 => ?_) (fun c22 => ?_) | refine zz_if_ne (tgt := 28) C dX2_bestPlace_22 (by decide) (fun c22 => ?_) (fun c22 => ?_)
      · refine zz_bipush (v := (-6)) C dX2_bestPlace_28 (by decide) ?_
        refine zz_istore_n C dX2_bestPlace_30 (by decide) ?_
        refine zz_iconst (v := 4) C dX2_bestPlace_31 (by decide) ?_
        refine zz_istore C dX2_bestPlace_32 (by decide) ?_
        have L34 : ∀ (n : Nat) (i n1 : Nat), i + n1 = 5 → i + 1 ≤ n → zz_V D b0 6 p l e ({ frames := 4, cells := 0, slots := 0, locals := 97 } : Jvm.Room) s m ([.ref x, .int v0, .int v1] : List Value).toArray below meth c (MQ below (zz_Q D b0 (fun v h' => v = some (.int (op_bp a nb v0 v1)) ∧ h' = h)) ([.ref x, .int v0, .int v1] : List Value).toArray s 0 0 (fun q => b0 ≤ q)) 0 0 h [(0, .ref x), (1, .int v0), (2, .int v1), (3, .int (qa_bp a nb v0 v1 n1)), (4, .int (nI i - 1))] 34 [] := by
          intro n
          induction n with
          | zero =>
            intro i n1 h1 h2
            exact absurd h2 (by omega)
          | succ n ih =>
            intro i n1 h1 h2
            refine zz_iload C dX2_bestPlace_34 rfl ?_
            refine zz_if_lt (tgt := 101) C dX2_bestPlace_36 (by decide) (fun c36 => ?_) (fun c36 => ?_)
            · obtain rfl := zz_dn (by omega) c36
              obtain rfl : n1 = 5 := by omega
              refine zz_iload_n C dX2_bestPlace_101 rfl ?_
              refine zz_iret C dX2_bestPlace_102 rfl rfl ?_
              refine ⟨?_, rfl⟩
              unfold op_bp
              first
              | rw [if_pos ‹_›]
              | rw [if_neg (zz_tf ‹qa_in v0 0 (a 5 - 1) = true›), if_pos c12]
              | rw [if_neg (zz_tf ‹qa_in v0 0 (a 5 - 1) = true›), if_neg (zz_tf c12), ebn, if_pos c22]
              | rw [if_neg (zz_tf ‹qa_in v0 0 (a 5 - 1) = true›), if_neg (zz_tf c12), ebn, if_neg (zz_tf c22)]
            · obtain ⟨j, rfl⟩ := zz_dp c36
              rw [zz_sub1]
              have e4 : 4 - n1 = j := by omega
              refine zz_joinI (pcJ := 56) (zz_b (decide (qa_find a (5 * v1 + nI j) nb = -6))) ?_ ?_
              · rintro z56 rfl
                refine zz_istore C dX2_bestPlace_56 (by decide) ?_
                refine zz_joinI (pcJ := 94) (qa_bp a nb v0 v1 (n1 + 1)) ?_ ?_
                · rintro z94 rfl
                  refine zz_istore_n C dX2_bestPlace_94 (by decide) ?_
                  refine zz_iinc C dX2_bestPlace_95 rfl (zz_m1 _) (by decide) ?_
                  refine zz_goto (tgt := 34) C dX2_bestPlace_98 (by decide) ?_
                  exact zz_loc2 (ih j (n1 + 1) (by omega) (by omega)) ⟨rfl, rfl, rfl, rfl, rfl, trivial⟩
                · intro J94
                  refine zz_iload C dX2_bestPlace_58 rfl ?_
                  first | refine zz_ifb_eq (tgt := 93) C dX2_bestPlace_60 (by decide) (fun c60 => ?_) (fun c60 => ?_) | refine zz_if_eq (tgt := 93) C dX2_bestPlace_60 (by decide) (fun c60 => ?_) (fun c60 => ?_)
                  · refine zz_iload_n C dX2_bestPlace_93 rfl ?_
                    exact J94 _ (by
                          first
                          | exact (qa_bp_s e4 (of_decide_eq_true c60) (Or.inl c66)).symm
                          | exact (qa_bp_s e4 (of_decide_eq_true c60) (Or.inr (Int32.not_lt.mp c85))).symm
                          | exact (qa_bp_n e4 (Or.inl (of_decide_eq_false c60))).symm
                          | exact (qa_bp_n e4 (Or.inr ⟨c66, Int32.not_le.mpr c85⟩)).symm)
                  · refine zz_iload_n C dX2_bestPlace_63 rfl ?_
                    refine zz_bipush (v := (-6)) C dX2_bestPlace_64 (by decide) ?_
                    refine zz_icmp_eq (tgt := 88) C dX2_bestPlace_66 (by decide) (fun c66 => ?_) (fun c66 => ?_)
                    · refine zz_iload C dX2_bestPlace_88 rfl ?_
                      refine zz_goto (tgt := 94) C dX2_bestPlace_90 (by decide) ?_
                      exact J94 _ (by
                            first
                            | exact (qa_bp_s e4 (of_decide_eq_true c60) (Or.inl c66)).symm
                            | exact (qa_bp_s e4 (of_decide_eq_true c60) (Or.inr (Int32.not_lt.mp c85))).symm
                            | exact (qa_bp_n e4 (Or.inl (of_decide_eq_false c60))).symm
                            | exact (qa_bp_n e4 (Or.inr ⟨c66, Int32.not_le.mpr c85⟩)).symm)
                    · first | refine zz_aload_n C dX2_bestPlace_69 rfl ?_ | refine zz_aload_nN C dX2_bestPlace_69 rfl ?_
                      refine zz_iload_n C dX2_bestPlace_70 rfl ?_
                      refine zz_iload_n C dX2_bestPlace_71 rfl ?_
                      refine zz_iload C dX2_bestPlace_72 rfl ?_
                      refine zz_callV C zy_X2_share (ct_X2_share nb h5 hnb hw hlk hm lr ev1 (by omega) hM) rfl q1538 (by first | assumption | exact zz_us | exact zz_lk1 (by assumption) (by assumption) | exact zz_lk3 (hd _ _ (by decide) (by decide) (by decide)) (by assumption) | exact zz_uf (by assumption) (by assumption) | exact zz_lk3 (zz_xi (by assumption) (by assumption)) (zz_lk1 (by assumption) (by assumption)) | exact zz_lk3 (hd _ _ (by decide) (by decide) (by decide)) (zz_lk3 (hd _ _ (by decide) (by decide) (by decide)) (by assumption)) | (simp only [zz_up]; simp_all; done)) rfl rfl rfl rfl rfl rfl dX2_bestPlace_74 ⟨Nat.le_of_ble_eq_true rfl, Nat.le_of_ble_eq_true rfl⟩ (fun v hz hp => ?_)
                      obtain ⟨rfl, ez⟩ := hp
                      obtain rfl := ez.symm
                      first | refine zz_aload_n C dX2_bestPlace_77 rfl ?_ | refine zz_aload_nN C dX2_bestPlace_77 rfl ?_
                      refine zz_iload_n C dX2_bestPlace_78 rfl ?_
                      refine zz_iload_n C dX2_bestPlace_79 rfl ?_
                      refine zz_iload_n C dX2_bestPlace_80 rfl ?_
                      refine zz_callV C zy_X2_share (ct_X2_share nb h5 hnb hw hlk hm lr ev1 (by omega) hM) rfl q1538 (by first | assumption | exact zz_us | exact zz_lk1 (by assumption) (by assumption) | exact zz_lk3 (hd _ _ (by decide) (by decide) (by decide)) (by assumption) | exact zz_uf (by assumption) (by assumption) | exact zz_lk3 (zz_xi (by assumption) (by assumption)) (zz_lk1 (by assumption) (by assumption)) | exact zz_lk3 (hd _ _ (by decide) (by decide) (by decide)) (zz_lk3 (hd _ _ (by decide) (by decide) (by decide)) (by assumption)) | (simp only [zz_up]; simp_all; done)) rfl rfl rfl rfl rfl rfl dX2_bestPlace_81 ⟨Nat.le_of_ble_eq_true rfl, Nat.le_of_ble_eq_true rfl⟩ (fun v hz hp => ?_)
                      obtain ⟨rfl, ez⟩ := hp
                      obtain rfl := ez.symm
                      refine zz_fcmp C dX2_bestPlace_84 ?_
                      refine zz_if_gt (tgt := 93) C dX2_bestPlace_85 (by decide) (fun c85 => ?_) (fun c85 => ?_)
                      · refine zz_iload_n C dX2_bestPlace_93 rfl ?_
                        exact J94 _ (by
                              first
                              | exact (qa_bp_s e4 (of_decide_eq_true c60) (Or.inl c66)).symm
                              | exact (qa_bp_s e4 (of_decide_eq_true c60) (Or.inr (Int32.not_lt.mp c85))).symm
                              | exact (qa_bp_n e4 (Or.inl (of_decide_eq_false c60))).symm
                              | exact (qa_bp_n e4 (Or.inr ⟨c66, Int32.not_le.mpr c85⟩)).symm)
                      · refine zz_iload C dX2_bestPlace_88 rfl ?_
                        refine zz_goto (tgt := 94) C dX2_bestPlace_90 (by decide) ?_
                        exact J94 _ (by
                              first
                              | exact (qa_bp_s e4 (of_decide_eq_true c60) (Or.inl c66)).symm
                              | exact (qa_bp_s e4 (of_decide_eq_true c60) (Or.inr (Int32.not_lt.mp c85))).symm
                              | exact (qa_bp_n e4 (Or.inl (of_decide_eq_false c60))).symm
                              | exact (qa_bp_n e4 (Or.inr ⟨c66, Int32.not_le.mpr c85⟩)).symm)
              · intro J56
                first | refine zz_aload_n C dX2_bestPlace_39 rfl ?_ | refine zz_aload_nN C dX2_bestPlace_39 rfl ?_
                refine zz_iload_n C dX2_bestPlace_40 rfl ?_
                refine zz_iload C dX2_bestPlace_41 rfl ?_
                refine zz_callV C zy_X2_blockAt (ct_X2_blockAt nb h5 hnb hM) rfl q1383 (by first | assumption | exact zz_us | exact zz_lk1 (by assumption) (by assumption) | exact zz_lk3 (hd _ _ (by decide) (by decide) (by decide)) (by assumption) | exact zz_uf (by assumption) (by assumption) | exact zz_lk3 (zz_xi (by assumption) (by assumption)) (zz_lk1 (by assumption) (by assumption)) | exact zz_lk3 (hd _ _ (by decide) (by decide) (by decide)) (zz_lk3 (hd _ _ (by decide) (by decide) (by decide)) (by assumption)) | (simp only [zz_up]; simp_all; done)) rfl rfl rfl rfl rfl rfl dX2_bestPlace_43 ⟨Nat.le_of_ble_eq_true rfl, Nat.le_of_ble_eq_true rfl⟩ (fun v hz hp => ?_)
                obtain ⟨rfl, ez⟩ := hp
                obtain rfl := ez.symm
                refine zz_bipush (v := (-6)) C dX2_bestPlace_46 (by decide) ?_
                refine zz_icmp_ne (tgt := 55) C dX2_bestPlace_48 (by decide) (fun c48 => ?_) (fun c48 => ?_)
                · refine zz_iconst (v := 0) C dX2_bestPlace_55 (by decide) ?_
                  exact J56 _ (by first | exact zz_bt (decide_eq_true ‹_›) | exact zz_bf (decide_eq_false ‹_›))
                · refine zz_iconst (v := 1) C dX2_bestPlace_51 (by decide) ?_
                  refine zz_goto (tgt := 56) C dX2_bestPlace_52 (by decide) ?_
                  exact J56 _ (by first | exact zz_bt (decide_eq_true ‹_›) | exact zz_bf (decide_eq_false ‹_›))
        exact zz_loc2 (L34 6 5 0 (by omega) (by omega)) ⟨rfl, rfl, rfl, rfl, rfl, trivial⟩
      · refine zz_bipush (v := (-5)) C dX2_bestPlace_25 (by decide) ?_
        refine zz_iret C dX2_bestPlace_27 rfl rfl ?_
        refine ⟨?_, rfl⟩
        unfold op_bp
        first
        | rw [if_pos ‹_›]
        | rw [if_neg (zz_tf ‹qa_in v0 0 (a 5 - 1) = true›), if_pos c12]
        | rw [if_neg (zz_tf ‹qa_in v0 0 (a 5 - 1) = true›), if_neg (zz_tf c12), ebn, if_pos c22]
        | rw [if_neg (zz_tf ‹qa_in v0 0 (a 5 - 1) = true›), if_neg (zz_tf c12), ebn, if_neg (zz_tf c22)]
    · refine zz_iconst (v := (-1)) C dX2_bestPlace_15 (by decide) ?_
      refine zz_iret C dX2_bestPlace_16 rfl rfl ?_
      refine ⟨?_, rfl⟩
      unfold op_bp
      first
      | rw [if_pos ‹_›]
      | rw [if_neg (zz_tf ‹qa_in v0 0 (a 5 - 1) = true›), if_pos c12]
      | rw [if_neg (zz_tf ‹qa_in v0 0 (a 5 - 1) = true›), if_neg (zz_tf c12), ebn, if_pos c22]
      | rw [if_neg (zz_tf ‹qa_in v0 0 (a 5 - 1) = true›), if_neg (zz_tf c12), ebn, if_neg (zz_tf c22)]

theorem ct_X2_floatBits {l : Launch} {D : va_G} {b0 : Nat} {h : zz_H} {r : UInt32} (hr : fs_k (-149) 104 r)  : zz_Ct l D b0 yX2_floatBits cX2_floatBits 3 (some .int) 0 0 0 0 [.float r] h (fun v h' => v = some (.int r.toInt32) ∧ h' = h) := by
  refine zz_Ct.of zy_X2_floatBits.1 rfl ?_
  intro p e s m below meth c C
  refine zz_fload_n C dX2_floatBits_0 rfl ?_
  refine zz_fconst0 C dX2_floatBits_1 ?_
  refine zz_fcmp C dX2_floatBits_2 ?_
  refine zz_if_ne (tgt := 8) C dX2_floatBits_3 (by decide) (fun c3 => ?_) (fun c3 => ?_)
  · obtain ⟨cm, q, hn, q1b, q2b⟩ := hr.resolve_left (fun g => c3 ((fs_ne0 _ hr).mpr g))
    refine zz_bipush (v := nI 127) C dX2_floatBits_8 (by decide) ?_
    refine zz_istore_n C dX2_floatBits_10 (by decide) ?_
    refine zz_fload_n C dX2_floatBits_11 rfl ?_
    refine zz_fstore_n C dX2_floatBits_12 (by decide) ?_
    have L13 : ∀ (n : Nat) (q1 : Int) (r1 : UInt32) (k : Nat), fs_n r1 cm q1 → q ≤ q1 → (q1 = q ∨ q1 ≤ -23) → (k : Int) = 127 + q - q1 → -22 - q1 ≤ (n : Int) → 1 ≤ n → zz_V D b0 3 p l e ({ frames := 0, cells := 0, slots := 0, locals := 0 } : Jvm.Room) s m ([.float r] : List Value).toArray below meth c (MQ below (zz_Q D b0 (fun v h' => v = some (.int r.toInt32) ∧ h' = h)) ([.float r] : List Value).toArray s 0 0 (fun q => b0 ≤ q)) 0 0 h [(1, .int (nI k)), (2, .float r1)] 13 [] := by
      intro n
      induction n with
      | zero =>
        intro q1 r1 k hr1 g1 g2 g3 g4 h2
        exact absurd h2 (by omega)
      | succ n ih =>
        intro q1 r1 k hr1 g1 g2 g3 g4 h2
        refine zz_fload_n C dX2_floatBits_13 rfl ?_
        refine zz_fconst1 C dX2_floatBits_14 ?_
        refine zz_fcmp C dX2_floatBits_15 ?_
        refine zz_if_ge (tgt := 29) C dX2_floatBits_16 (by decide) (fun c16 => ?_) (fun c16 => ?_)
        · have hq := fs_1le hr1 _ c16
          have L29 : ∀ (n : Nat) (q2 : Int) (r2 : UInt32) (k2 : Nat), fs_n r2 cm q2 → -23 ≤ q2 → (k2 : Int) = 127 + q - q2 → q2 + 24 ≤ (n : Int) → zz_V D b0 3 p l e ({ frames := 0, cells := 0, slots := 0, locals := 0 } : Jvm.Room) s m ([.float r] : List Value).toArray below meth c (MQ below (zz_Q D b0 (fun v h' => v = some (.int r.toInt32) ∧ h' = h)) ([.float r] : List Value).toArray s 0 0 (fun q => b0 ≤ q)) 0 0 h [(1, .int (nI k2)), (2, .float r2)] 29 [] := by
            intro n
            induction n with
            | zero =>
              intro q2 r2 k2 hr2 g5 g6 h3
              exact absurd h3 (by omega)
            | succ n ih =>
              intro q2 r2 k2 hr2 g5 g6 h3
              refine zz_fload_n C dX2_floatBits_29 rfl ?_
              refine zz_fconst2 C dX2_floatBits_30 ?_
              refine zz_fcmp C dX2_floatBits_31 ?_
              refine zz_if_lt (tgt := 46) C dX2_floatBits_32 (by decide) (fun c32 => ?_) (fun c32 => ?_)
              · have hq2 := fs_2lt hr2 _ c32
                obtain rfl : q2 = -23 := by omega
                refine zz_iload_n C dX2_floatBits_46 rfl ?_
                refine zz_ldc C rfl q1488 dX2_floatBits_47 ?_
                refine zz_imul C dX2_floatBits_49 ?_
                refine zz_fload_n C dX2_floatBits_50 rfl ?_
                refine zz_fconst1 C dX2_floatBits_51 ?_
                refine zz_fsub C dX2_floatBits_52 (fs_tail hr2).2.1 ?_
                refine zz_ldcF C rfl q1489 dX2_floatBits_53 ?_
                refine zz_fmul C dX2_floatBits_55 (fs_tail hr2).2.2 ?_
                refine zz_f2i C dX2_floatBits_56 ?_
                refine zz_iadd C dX2_floatBits_57 ?_
                refine zz_iret C dX2_floatBits_58 rfl rfl ?_
                first
                | exact ⟨rfl, rfl⟩
                | (refine ⟨?_, rfl⟩
                   rw [(fs_tail hr2).1, show (8388608 : Int32) = nI 8388608 from rfl, show Int32.ofNat (cm - 8388608) = nI (cm - 8388608) from rfl, zz_ixm, ← fs_bi, fs_bits hn, show (q + 150).toNat = k2 from by omega]
                   rfl)
              · have hq2 := fs_2le hr2 _ c32
                refine zz_fload_n C dX2_floatBits_35 rfl ?_
                refine zz_ldcF C rfl q1487 dX2_floatBits_36 ?_
                refine zz_fmul C dX2_floatBits_38 (fs_hlf hr2 (by omega)).nn ?_
                refine zz_fstore_n C dX2_floatBits_39 (by decide) ?_
                refine zz_iinc C dX2_floatBits_40 rfl (by first | exact nI_1 _ | exact (rfl : _ + Int32.ofInt 1 = _ + 1)) (by decide) ?_
                refine zz_goto (tgt := 29) C dX2_floatBits_43 (by decide) ?_
                exact zz_loc2 (ih (q2 - 1) _ (k2 + 1) (fs_hlf hr2 (by omega)) (by omega) (by omega) (by omega)) ⟨rfl, rfl, trivial⟩
          exact zz_loc2 (L29 200 q1 r1 k hr1 (by omega) (by omega) (by have := hr1.2.2.2.2; omega)) ⟨rfl, rfl, trivial⟩
        · have hq := fs_1lt hr1 _ c16
          obtain ⟨k1, rfl⟩ : ∃ k1, k = k1 + 1 := ⟨k - 1, by omega⟩
          refine zz_fload_n C dX2_floatBits_19 rfl ?_
          refine zz_fconst2 C dX2_floatBits_20 ?_
          refine zz_fmul C dX2_floatBits_21 (fs_dbl hr1 (by omega)).nn ?_
          refine zz_fstore_n C dX2_floatBits_22 (by decide) ?_
          refine zz_iinc C dX2_floatBits_23 rfl (by first | exact pk_m1 _ | rfl) (by decide) ?_
          refine zz_goto (tgt := 13) C dX2_floatBits_26 (by decide) ?_
          exact zz_loc2 (ih (q1 + 1) _ k1 (fs_dbl hr1 (by omega)) (by omega) (by omega) (by omega) (by omega) (by omega)) ⟨rfl, rfl, trivial⟩
    exact zz_loc2 (L13 200 q r 127 hn (by omega) (Or.inl rfl) (by omega) (by omega) (by omega)) ⟨rfl, rfl, trivial⟩
  · obtain rfl := (fs_ne0 _ hr).mp c3
    refine zz_iconst (v := 0) C dX2_floatBits_6 (by decide) ?_
    refine zz_iret C dX2_floatBits_7 rfl rfl ?_
    first
    | exact ⟨rfl, rfl⟩
    | (refine ⟨?_, rfl⟩
       rw [(fs_tail hr2).1, show (8388608 : Int32) = nI 8388608 from rfl, show Int32.ofNat (cm - 8388608) = nI (cm - 8388608) from rfl, zz_ixm, ← fs_bi, fs_bits hn, show (q + 150).toNat = k2 from by omega]
       rfl)

theorem ct_X2_bitsOf {l : Launch} {D : va_G} {b0 : Nat} {h : zz_H} {r : UInt64} (hr : fd_k (-1074) 971 r)  : zz_Ct l D b0 yX2_bitsOf cX2_bitsOf 6 (some .long) 0 0 0 0 [.double r] h (fun v h' => v = some (.long r.toInt64) ∧ h' = h) := by
  refine zz_Ct.of zy_X2_bitsOf.1 rfl ?_
  intro p e s m below meth c C
  refine zz_dload_n C dX2_bitsOf_0 rfl ?_
  refine zz_dconst0 C dX2_bitsOf_1 ?_
  refine zz_dcmp C dX2_bitsOf_2 ?_
  refine zz_if_ne (tgt := 8) C dX2_bitsOf_3 (by decide) (fun c3 => ?_) (fun c3 => ?_)
  · obtain ⟨cm, q, hn, q1b, q2b⟩ := hr.resolve_left (fun g => c3 ((fd_ne0 _ hr).mpr g))
    refine zz_ldc2 C rfl q1509 dX2_bitsOf_8 ?_
    refine zz_lstore_n C dX2_bitsOf_11 (by decide) ?_
    refine zz_dload_n C dX2_bitsOf_12 rfl ?_
    refine zz_dstore C dX2_bitsOf_13 (by decide) ?_
    have L15 : ∀ (n : Nat) (q1 : Int) (r1 : UInt64) (k : Nat), fd_n r1 cm q1 → q ≤ q1 → (q1 = q ∨ q1 ≤ -52) → (k : Int) = 1023 + q - q1 → -51 - q1 ≤ (n : Int) → 1 ≤ n → zz_V D b0 6 p l e ({ frames := 0, cells := 0, slots := 0, locals := 0 } : Jvm.Room) s m ([.double r] : List Value).toArray below meth c (MQ below (zz_Q D b0 (fun v h' => v = some (.long r.toInt64) ∧ h' = h)) ([.double r] : List Value).toArray s 0 0 (fun q => b0 ≤ q)) 0 0 h [(2, .long (Int64.ofNat k)), (4, .double r1)] 15 [] := by
      intro n
      induction n with
      | zero =>
        intro q1 r1 k hr1 g1 g2 g3 g4 h2
        exact absurd h2 (by omega)
      | succ n ih =>
        intro q1 r1 k hr1 g1 g2 g3 g4 h2
        refine zz_dload C dX2_bitsOf_15 rfl ?_
        refine zz_dconst1 C dX2_bitsOf_17 ?_
        refine zz_dcmp C dX2_bitsOf_18 ?_
        refine zz_if_ge (tgt := 37) C dX2_bitsOf_19 (by decide) (fun c19 => ?_) (fun c19 => ?_)
        · have hq := fd_1le hr1 _ c19
          have L37 : ∀ (n : Nat) (q2 : Int) (r2 : UInt64) (k2 : Nat), fd_n r2 cm q2 → -52 ≤ q2 → (k2 : Int) = 1023 + q - q2 → q2 + 53 ≤ (n : Int) → zz_V D b0 6 p l e ({ frames := 0, cells := 0, slots := 0, locals := 0 } : Jvm.Room) s m ([.double r] : List Value).toArray below meth c (MQ below (zz_Q D b0 (fun v h' => v = some (.long r.toInt64) ∧ h' = h)) ([.double r] : List Value).toArray s 0 0 (fun q => b0 ≤ q)) 0 0 h [(2, .long (Int64.ofNat k2)), (4, .double r2)] 37 [] := by
            intro n
            induction n with
            | zero =>
              intro q2 r2 k2 hr2 g5 g6 h3
              exact absurd h3 (by omega)
            | succ n ih =>
              intro q2 r2 k2 hr2 g5 g6 h3
              refine zz_dload C dX2_bitsOf_37 rfl ?_
              refine zz_ldc2D C rfl q1510 dX2_bitsOf_39 ?_
              refine zz_dcmp C dX2_bitsOf_42 ?_
              refine zz_if_lt (tgt := 61) C dX2_bitsOf_43 (by decide) (fun c43 => ?_) (fun c43 => ?_)
              · have hq2 := fd_2lt hr2 _ c43
                obtain rfl : q2 = -52 := by omega
                refine zz_lload_n C dX2_bitsOf_61 rfl ?_
                refine zz_ldc2 C rfl q1512 dX2_bitsOf_62 ?_
                refine zz_lmul C dX2_bitsOf_65 ?_
                refine zz_dload C dX2_bitsOf_66 rfl ?_
                refine zz_dconst1 C dX2_bitsOf_68 ?_
                refine zz_dsub C dX2_bitsOf_69 (fd_tail hr2).2.1 ?_
                refine zz_ldc2D C rfl q1513 dX2_bitsOf_70 ?_
                refine zz_dmul C dX2_bitsOf_73 (fd_tail hr2).2.2 ?_
                refine zz_d2l C dX2_bitsOf_74 ?_
                refine zz_ladd C dX2_bitsOf_75 ?_
                refine zz_lret C dX2_bitsOf_76 rfl rfl ?_
                first
                | exact ⟨rfl, rfl⟩
                | (refine ⟨?_, rfl⟩
                   rw [(fd_tail hr2).1, show (4503599627370496 : Int64) = Int64.ofNat 4503599627370496 from rfl, fd_ixm, ← fd_bi, fd_bits hn, show (q + 1075).toNat = k2 from by omega])
              · have hq2 := fd_2le hr2 _ c43
                refine zz_dload C dX2_bitsOf_46 rfl ?_
                refine zz_ldc2D C rfl q1511 dX2_bitsOf_48 ?_
                refine zz_dmul C dX2_bitsOf_51 (fd_hlf hr2 (by omega)).nn ?_
                refine zz_dstore C dX2_bitsOf_52 (by decide) ?_
                refine zz_lload_n C dX2_bitsOf_54 rfl ?_
                refine zz_lconst (v := 1) C dX2_bitsOf_55 (by decide) ?_
                refine zz_ladd C dX2_bitsOf_56 ?_
                refine zz_lstore_n C dX2_bitsOf_57 (by decide) ?_
                refine zz_goto (tgt := 37) C dX2_bitsOf_58 (by decide) ?_
                rw [fd_a]
                exact zz_loc2 (ih (q2 - 1) _ (k2 + 1) (fd_hlf hr2 (by omega)) (by omega) (by omega) (by omega)) ⟨rfl, rfl, trivial⟩
          exact zz_loc2 (L37 1200 q1 r1 k hr1 (by omega) (by omega) (by have := hr1.2.2.2.2; omega)) ⟨rfl, rfl, trivial⟩
        · have hq := fd_1lt hr1 _ c19
          obtain ⟨k1, rfl⟩ : ∃ k1, k = k1 + 1 := ⟨k - 1, by omega⟩
          refine zz_dload C dX2_bitsOf_22 rfl ?_
          refine zz_ldc2D C rfl q1510 dX2_bitsOf_24 ?_
          refine zz_dmul C dX2_bitsOf_27 (fd_dbl hr1 (by omega)).nn ?_
          refine zz_dstore C dX2_bitsOf_28 (by decide) ?_
          refine zz_lload_n C dX2_bitsOf_30 rfl ?_
          refine zz_lconst (v := 1) C dX2_bitsOf_31 (by decide) ?_
          refine zz_lsub C dX2_bitsOf_32 ?_
          refine zz_lstore_n C dX2_bitsOf_33 (by decide) ?_
          refine zz_goto (tgt := 15) C dX2_bitsOf_34 (by decide) ?_
          rw [fd_s]
          exact zz_loc2 (ih (q1 + 1) _ k1 (fd_dbl hr1 (by omega)) (by omega) (by omega) (by omega) (by omega) (by omega)) ⟨rfl, rfl, trivial⟩
    exact zz_loc2 (L15 1200 q r 1023 hn (by omega) (Or.inl rfl) (by omega) (by omega) (by omega)) ⟨rfl, rfl, trivial⟩
  · obtain rfl := (fd_ne0 _ hr).mp c3
    refine zz_lconst (v := 0) C dX2_bitsOf_6 (by decide) ?_
    refine zz_lret C dX2_bitsOf_7 rfl rfl ?_
    first
    | exact ⟨rfl, rfl⟩
    | (refine ⟨?_, rfl⟩
       rw [(fd_tail hr2).1, show (4503599627370496 : Int64) = Int64.ofNat 4503599627370496 from rfl, fd_ixm, ← fd_bi, fd_bits hn, show (q + 1075).toNat = k2 from by omega])

theorem ct_X2_meanWeight {l : Launch} {D : va_G} {b0 : Nat} {h : zz_H} {x s0 : Nat} {a : Nat → Int32} (nb : Nat) (h5 : a 5 = nI nb) (hnb : nb ≤ 24) (hs1 : ∃ k : Nat, k < 2 ^ 31 ∧ qa_sum (qa_ncf a true) nb = nI k) (hs0 : ∃ k : Nat, k < 2 ^ 31 ∧ qa_sum (qa_ncf a false) nb = nI k) (hM : tw_M D h x s0 a) : zz_Ct l D b0 yX2_meanWeight cX2_meanWeight 2 (some .long) 3 66 0 0 [.ref x] h (fun v h' => v = some (.long (op_mean a nb)) ∧ h' = h) := by
  refine zz_Ct.of zy_X2_meanWeight.1 rfl ?_
  intro p e s m below meth c C
  have hM0 := hM
  obtain ⟨fs, hx, hf0, hs⟩ := hM0
  first | refine zz_aload_n C dX2_meanWeight_0 rfl ?_ | refine zz_aload_nN C dX2_meanWeight_0 rfl ?_
  refine zz_iconst (v := 0) C dX2_meanWeight_1 (by decide) ?_
  refine zz_callV C zy_X2_notCut (ct_X2_notCut (c0 := false) nb h5 hnb hM) rfl q1498 (by first | assumption | exact zz_us | exact zz_lk1 (by assumption) (by assumption) | exact zz_lk3 (hd _ _ (by decide) (by decide) (by decide)) (by assumption) | exact zz_uf (by assumption) (by assumption) | exact zz_lk3 (zz_xi (by assumption) (by assumption)) (zz_lk1 (by assumption) (by assumption)) | exact zz_lk3 (hd _ _ (by decide) (by decide) (by decide)) (zz_lk3 (hd _ _ (by decide) (by decide) (by decide)) (by assumption)) | (simp only [zz_up]; simp_all; done)) rfl rfl rfl rfl rfl rfl dX2_meanWeight_2 ⟨Nat.le_of_ble_eq_true rfl, Nat.le_of_ble_eq_true rfl⟩ (fun v hz hp => ?_)
  obtain ⟨rfl, ez⟩ := hp
  obtain rfl := ez.symm
  refine zz_istore_n C dX2_meanWeight_5 (by decide) ?_
  refine zz_iload_n C dX2_meanWeight_6 rfl ?_
  refine zz_if_ne (tgt := 14) C dX2_meanWeight_7 (by decide) (fun c7 => ?_) (fun c7 => ?_)
  · obtain ⟨kw, hkw, ekw⟩ := hs1
    obtain ⟨km, hkm, ekm⟩ := hs0
    have hm0 : 0 < km := Nat.pos_of_ne_zero (fun q => c7 (by rw [ekm, q]; rfl))
    obtain ⟨cd, qd, gd, gd1, gd2⟩ := fd_i hm0 hkm
    have hk : fd_k (-1074) 971 (FP.ddiv (FP.i2d (qa_sum (qa_ncf a true) nb)) (FP.i2d (qa_sum (qa_ncf a false) nb))) := by
      rw [ekw, ekm]
      exact (fd_k.div (l2 := -52) (h2 := -20) (fd_ik hkw) ⟨cd, qd, gd, gd1, by omega⟩ (by decide) (by decide)).wd (by decide) (by decide)
    first | refine zz_aload_n C dX2_meanWeight_14 rfl ?_ | refine zz_aload_nN C dX2_meanWeight_14 rfl ?_
    refine zz_iconst (v := 1) C dX2_meanWeight_15 (by decide) ?_
    refine zz_callV C zy_X2_notCut (ct_X2_notCut (c0 := true) nb h5 hnb hM) rfl q1498 (by first | assumption | exact zz_us | exact zz_lk1 (by assumption) (by assumption) | exact zz_lk3 (hd _ _ (by decide) (by decide) (by decide)) (by assumption) | exact zz_uf (by assumption) (by assumption) | exact zz_lk3 (zz_xi (by assumption) (by assumption)) (zz_lk1 (by assumption) (by assumption)) | exact zz_lk3 (hd _ _ (by decide) (by decide) (by decide)) (zz_lk3 (hd _ _ (by decide) (by decide) (by decide)) (by assumption)) | (simp only [zz_up]; simp_all; done)) rfl rfl rfl rfl rfl rfl dX2_meanWeight_16 ⟨Nat.le_of_ble_eq_true rfl, Nat.le_of_ble_eq_true rfl⟩ (fun v hz hp => ?_)
    obtain ⟨rfl, ez⟩ := hp
    obtain rfl := ez.symm
    refine zz_i2d C dX2_meanWeight_19 ?_
    refine zz_iload_n C dX2_meanWeight_20 rfl ?_
    refine zz_i2d C dX2_meanWeight_21 ?_
    refine zz_ddiv C dX2_meanWeight_22 hk.nn ?_
    refine zz_callS C zy_X2_bitsOf (ct_X2_bitsOf hk) rfl q1506 rfl rfl rfl rfl rfl dX2_meanWeight_23 ⟨Nat.le_of_ble_eq_true rfl, Nat.le_of_ble_eq_true rfl⟩ (fun v hz hp => ?_)
    obtain ⟨rfl, ez⟩ := hp
    obtain rfl := ez.symm
    refine zz_lret C dX2_meanWeight_26 rfl rfl ?_
    exact ⟨by unfold op_mean; first | rw [if_pos c7] | rw [if_neg c7], rfl⟩
  · refine zz_lconst (v := 0) C dX2_meanWeight_10 (by decide) ?_
    refine zz_goto (tgt := 26) C dX2_meanWeight_11 (by decide) ?_
    refine zz_lret C dX2_meanWeight_26 rfl rfl ?_
    exact ⟨by unfold op_mean; first | rw [if_pos c7] | rw [if_neg c7], rfl⟩

