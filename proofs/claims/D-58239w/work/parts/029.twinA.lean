/-! the twin: axles, in floats -/
theorem ct_X2_axle {l : Launch} {D : va_G} {b0 : Nat} {h : zz_H} {x s0 : Nat} {a : Nat → Int32} {v0 v2 v3 : Int32} {c0 : Bool} (nb : Nat) (h5 : a 5 = nI nb) (hnb : nb ≤ 24) (hw : qa_wk a nb) (hm : v2 = -6 ∨ ∃ b : Nat, b < nb ∧ v2 = nI b) (hM : tw_M D h x s0 a) : zz_Ct l D b0 yX2_axle cX2_axle 8 (some .float) 2 45 0 0 [.ref x, .int v0, .int (zz_b c0), .int v2, .int v3] h (fun v h' => v = some (.float (qa_ax a nb v0 c0 v2 v3 5)) ∧ h' = h) := by
  refine zz_Ct.of zy_X2_axle.1 rfl ?_
  intro p e s m below meth c C
  have hM0 := hM
  obtain ⟨fs, hx, hf0, hs⟩ := hM0
  refine zz_fconst0 C dX2_axle_0 ?_
  refine zz_fstore C dX2_axle_1 (by decide) ?_
  refine zz_iconst (v := 0) C dX2_axle_3 (by decide) ?_
  refine zz_istore C dX2_axle_4 (by decide) ?_
  have L6 : ∀ (n : Nat) (i : Nat), i ≤ 5 → 6 ≤ i + n → zz_V D b0 8 p l e ({ frames := 2, cells := 0, slots := 0, locals := 45 } : Jvm.Room) s m ([.ref x, .int v0, .int (zz_b c0), .int v2, .int v3] : List Value).toArray below meth c (MQ below (zz_Q D b0 (fun v h' => v = some (.float (qa_ax a nb v0 c0 v2 v3 5)) ∧ h' = h)) ([.ref x, .int v0, .int (zz_b c0), .int v2, .int v3] : List Value).toArray s 0 0 (fun q => b0 ≤ q)) 0 0 h [(0, .ref x), (1, .int v0), (2, .int (zz_b c0)), (3, .int v2), (4, .int v3), (5, .float (qa_ax a nb v0 c0 v2 v3 i)), (6, .int (nI i))] 6 [] := by
    intro n
    induction n with
    | zero =>
      intro i h1 h2
      exact absurd h2 (by omega)
    | succ n ih =>
      intro i h1 h2
      refine zz_iload C dX2_axle_6 rfl ?_
      refine zz_iconst (v := 5) C dX2_axle_8 (by decide) ?_
      refine zz_icmp_ge (tgt := 81) C dX2_axle_9 (by decide) (fun c9 => ?_) (fun c9 => ?_)
      · have hi2 : 5 ≤ i := (nI_leI (a := 5) (by omega) (by omega)).mp c9
        obtain rfl : i = 5 := by omega
        refine zz_fload C dX2_axle_81 rfl ?_
        refine zz_fret C dX2_axle_83 rfl rfl ?_
        exact ⟨rfl, rfl⟩
      · have hi2 : i < 5 := Nat.not_le.mp (fun q => c9 (nI_le (a := 5) q (by omega)))
        refine zz_joinI (pcJ := 36) (qa_bl a nb v0 v2 v3 i) ?_ ?_
        · rintro z36 rfl
          refine zz_istore C dX2_axle_36 (by decide) ?_
          refine zz_iload C dX2_axle_38 rfl ?_
          refine zz_bipush (v := (-6)) C dX2_axle_40 (by decide) ?_
          refine zz_icmp_eq (tgt := 75) C dX2_axle_42 (by decide) (fun c42 => ?_) (fun c42 => ?_)
          · refine zz_iinc C dX2_axle_75 rfl (by first | exact nI_1 _ | exact (rfl : _ + Int32.ofInt 1 = _ + 1)) (by decide) ?_
            refine zz_goto (tgt := 6) C dX2_axle_78 (by decide) ?_
            first
            | (rw [show qa_ax a nb v0 c0 v2 v3 i = qa_ax a nb v0 c0 v2 v3 (i + 1) from (if_pos c42).symm]
               exact zz_loc2 (ih (i + 1) (by omega) (by omega)) ⟨rfl, rfl, rfl, rfl, rfl, rfl, rfl, trivial⟩)
            | (have eA : FP.fadd (qa_ax a nb v0 c0 v2 v3 i) (FP.fdiv (FP.fmul (FP.i2f (qa_w a b)) (FP.i2f (fx_f c0 i))) 1082130432) = qa_ax a nb v0 c0 v2 v3 (i + 1) := by
                 rw [show qa_ax a nb v0 c0 v2 v3 (i + 1) = FP.fadd (qa_ax a nb v0 c0 v2 v3 i) (fx_w (qa_w a (qa_bl a nb v0 v2 v3 i).toNatClampNeg) c0 i) from if_neg c42, eb, nI_clamp (by omega)]
                 rfl
               rw [eA]
               exact zz_loc2 (ih (i + 1) (by omega) (by omega)) ⟨rfl, rfl, rfl, rfl, rfl, rfl, rfl, trivial⟩)
          · obtain ⟨b, hb, eb⟩ := (qa_bl_c hm i).resolve_left c42
            have hA := qa_ax_k (a := a) (l := v0) (free := v3) (rear := c0) hnb hw hm i (by omega)
            refine zz_fload C dX2_axle_45 rfl ?_
            first | refine zz_aload_n C dX2_axle_47 rfl ?_ | refine zz_aload_nN C dX2_axle_47 rfl ?_
            refine zz_iload C dX2_axle_48 rfl ?_
            refine zz_callV C zy_X2_weight (ct_X2_weight b eb (by omega) hM) rfl q1313 (by first | assumption | exact zz_us | exact zz_lk1 (by assumption) (by assumption) | exact zz_lk3 (hd _ _ (by decide) (by decide) (by decide)) (by assumption) | exact zz_uf (by assumption) (by assumption) | exact zz_lk3 (zz_xi (by assumption) (by assumption)) (zz_lk1 (by assumption) (by assumption)) | exact zz_lk3 (hd _ _ (by decide) (by decide) (by decide)) (zz_lk3 (hd _ _ (by decide) (by decide) (by decide)) (by assumption)) | (simp only [zz_up]; simp_all; done)) rfl rfl rfl rfl rfl rfl dX2_axle_50 ⟨Nat.le_of_ble_eq_true rfl, Nat.le_of_ble_eq_true rfl⟩ (fun v hz hp => ?_)
            obtain ⟨rfl, ez⟩ := hp
            obtain rfl := ez.symm
            refine zz_i2f C dX2_axle_53 ?_
            refine zz_joinI (pcJ := 67) (fx_f c0 i) ?_ ?_
            · rintro z67 rfl
              refine zz_i2f C dX2_axle_67 ?_
              refine zz_fmul C dX2_axle_68 (fx_m_k c0 (hw b hb) (by omega)).nn ?_
              refine zz_ldcF C rfl q1423 dX2_axle_69 ?_
              refine zz_fdiv C dX2_axle_71 (fx_w_k c0 (hw b hb) (by omega)).nn ?_
              refine zz_fadd C dX2_axle_72 (fs_k.add hA (fx_w_k c0 (hw b hb) (by omega)) (by decide) (by omega) (by omega)).nn ?_
              refine zz_fstore C dX2_axle_73 (by decide) ?_
              refine zz_iinc C dX2_axle_75 rfl (by first | exact nI_1 _ | exact (rfl : _ + Int32.ofInt 1 = _ + 1)) (by decide) ?_
              refine zz_goto (tgt := 6) C dX2_axle_78 (by decide) ?_
              first
              | (rw [show qa_ax a nb v0 c0 v2 v3 i = qa_ax a nb v0 c0 v2 v3 (i + 1) from (if_pos c42).symm]
                 exact zz_loc2 (ih (i + 1) (by omega) (by omega)) ⟨rfl, rfl, rfl, rfl, rfl, rfl, rfl, trivial⟩)
              | (have eA : FP.fadd (qa_ax a nb v0 c0 v2 v3 i) (FP.fdiv (FP.fmul (FP.i2f (qa_w a b)) (FP.i2f (fx_f c0 i))) 1082130432) = qa_ax a nb v0 c0 v2 v3 (i + 1) := by
                   rw [show qa_ax a nb v0 c0 v2 v3 (i + 1) = FP.fadd (qa_ax a nb v0 c0 v2 v3 i) (fx_w (qa_w a (qa_bl a nb v0 v2 v3 i).toNatClampNeg) c0 i) from if_neg c42, eb, nI_clamp (by omega)]
                   rfl
                 rw [eA]
                 exact zz_loc2 (ih (i + 1) (by omega) (by omega)) ⟨rfl, rfl, rfl, rfl, rfl, rfl, rfl, trivial⟩)
            · intro J67
              refine zz_iload_n C dX2_axle_54 rfl ?_
              first | refine zz_ifb_eq (tgt := 63) C dX2_axle_55 (by decide) (fun c55 => ?_) (fun c55 => ?_) | refine zz_if_eq (tgt := 63) C dX2_axle_55 (by decide) (fun c55 => ?_) (fun c55 => ?_)
              · refine zz_iconst (v := 4) C dX2_axle_63 (by decide) ?_
                refine zz_iload C dX2_axle_64 rfl ?_
                refine zz_isub C dX2_axle_66 ?_
                exact J67 _ (by unfold fx_f; first | exact (if_pos ‹_›).symm | exact (if_neg (by rw [‹c0 = false›]; decide)).symm)
              · refine zz_iload C dX2_axle_58 rfl ?_
                refine zz_goto (tgt := 67) C dX2_axle_60 (by decide) ?_
                exact J67 _ (by unfold fx_f; first | exact (if_pos ‹_›).symm | exact (if_neg (by rw [‹c0 = false›]; decide)).symm)
        · intro J36
          refine zz_iload C dX2_axle_12 rfl ?_
          refine zz_iload C dX2_axle_14 rfl ?_
          refine zz_icmp_ne (tgt := 29) C dX2_axle_16 (by decide) (fun c16 => ?_) (fun c16 => ?_)
          · first | refine zz_aload_n C dX2_axle_29 rfl ?_ | refine zz_aload_nN C dX2_axle_29 rfl ?_
            refine zz_iload_n C dX2_axle_30 rfl ?_
            refine zz_iload C dX2_axle_31 rfl ?_
            refine zz_callV C zy_X2_blockAt (ct_X2_blockAt nb h5 hnb hM) rfl q1383 (by first | assumption | exact zz_us | exact zz_lk1 (by assumption) (by assumption) | exact zz_lk3 (hd _ _ (by decide) (by decide) (by decide)) (by assumption) | exact zz_uf (by assumption) (by assumption) | exact zz_lk3 (zz_xi (by assumption) (by assumption)) (zz_lk1 (by assumption) (by assumption)) | exact zz_lk3 (hd _ _ (by decide) (by decide) (by decide)) (zz_lk3 (hd _ _ (by decide) (by decide) (by decide)) (by assumption)) | (simp only [zz_up]; simp_all; done)) rfl rfl rfl rfl rfl rfl dX2_axle_33 ⟨Nat.le_of_ble_eq_true rfl, Nat.le_of_ble_eq_true rfl⟩ (fun v hz hp => ?_)
            obtain ⟨rfl, ez⟩ := hp
            obtain rfl := ez.symm
            exact J36 _ (by unfold qa_bl; first | exact (if_pos ⟨‹_›, ‹_›⟩).symm | exact (if_neg (fun q => absurd ‹_› q.2)).symm | exact (if_neg (fun q => absurd q.1 ‹_›)).symm)
          · refine zz_iload_n C dX2_axle_19 rfl ?_
            refine zz_bipush (v := (-6)) C dX2_axle_20 (by decide) ?_
            refine zz_icmp_eq (tgt := 29) C dX2_axle_22 (by decide) (fun c22 => ?_) (fun c22 => ?_)
            · first | refine zz_aload_n C dX2_axle_29 rfl ?_ | refine zz_aload_nN C dX2_axle_29 rfl ?_
              refine zz_iload_n C dX2_axle_30 rfl ?_
              refine zz_iload C dX2_axle_31 rfl ?_
              refine zz_callV C zy_X2_blockAt (ct_X2_blockAt nb h5 hnb hM) rfl q1383 (by first | assumption | exact zz_us | exact zz_lk1 (by assumption) (by assumption) | exact zz_lk3 (hd _ _ (by decide) (by decide) (by decide)) (by assumption) | exact zz_uf (by assumption) (by assumption) | exact zz_lk3 (zz_xi (by assumption) (by assumption)) (zz_lk1 (by assumption) (by assumption)) | exact zz_lk3 (hd _ _ (by decide) (by decide) (by decide)) (zz_lk3 (hd _ _ (by decide) (by decide) (by decide)) (by assumption)) | (simp only [zz_up]; simp_all; done)) rfl rfl rfl rfl rfl rfl dX2_axle_33 ⟨Nat.le_of_ble_eq_true rfl, Nat.le_of_ble_eq_true rfl⟩ (fun v hz hp => ?_)
              obtain ⟨rfl, ez⟩ := hp
              obtain rfl := ez.symm
              exact J36 _ (by unfold qa_bl; first | exact (if_pos ⟨‹_›, ‹_›⟩).symm | exact (if_neg (fun q => absurd ‹_› q.2)).symm | exact (if_neg (fun q => absurd q.1 ‹_›)).symm)
            · refine zz_iload_n C dX2_axle_25 rfl ?_
              refine zz_goto (tgt := 36) C dX2_axle_26 (by decide) ?_
              exact J36 _ (by unfold qa_bl; first | exact (if_pos ⟨‹_›, ‹_›⟩).symm | exact (if_neg (fun q => absurd ‹_› q.2)).symm | exact (if_neg (fun q => absurd q.1 ‹_›)).symm)
  exact zz_loc2 (L6 6 0 (by omega) (by omega)) ⟨rfl, rfl, rfl, rfl, rfl, rfl, rfl, trivial⟩

theorem ct_X2_axleNow {l : Launch} {D : va_G} {b0 : Nat} {h : zz_H} {x s0 : Nat} {a : Nat → Int32} {v0 : Int32} {c0 : Bool} (nb : Nat) (h5 : a 5 = nI nb) (hnb : nb ≤ 24) (hw : qa_wk a nb) (hM : tw_M D h x s0 a) : zz_Ct l D b0 yX2_axleNow cX2_axleNow 3 (some .float) 3 72 0 0 [.ref x, .int v0, .int (zz_b c0)] h (fun v h' => v = some (.float (qa_ax a nb v0 c0 (-6) (-6) 5)) ∧ h' = h) := by
  refine zz_Ct.of zy_X2_axleNow.1 rfl ?_
  intro p e s m below meth c C
  have hM0 := hM
  obtain ⟨fs, hx, hf0, hs⟩ := hM0
  first | refine zz_aload_n C dX2_axleNow_0 rfl ?_ | refine zz_aload_nN C dX2_axleNow_0 rfl ?_
  refine zz_iload_n C dX2_axleNow_1 rfl ?_
  refine zz_iload_n C dX2_axleNow_2 rfl ?_
  refine zz_bipush (v := (-6)) C dX2_axleNow_3 (by decide) ?_
  refine zz_bipush (v := (-6)) C dX2_axleNow_5 (by decide) ?_
  refine zz_callV C zy_X2_axle (ct_X2_axle nb h5 hnb hw (Or.inl rfl) hM) rfl q1419 (by first | assumption | exact zz_us | exact zz_lk1 (by assumption) (by assumption) | exact zz_lk3 (hd _ _ (by decide) (by decide) (by decide)) (by assumption) | exact zz_uf (by assumption) (by assumption) | exact zz_lk3 (zz_xi (by assumption) (by assumption)) (zz_lk1 (by assumption) (by assumption)) | exact zz_lk3 (hd _ _ (by decide) (by decide) (by decide)) (zz_lk3 (hd _ _ (by decide) (by decide) (by decide)) (by assumption)) | (simp only [zz_up]; simp_all; done)) rfl rfl rfl rfl rfl rfl dX2_axleNow_7 ⟨Nat.le_of_ble_eq_true rfl, Nat.le_of_ble_eq_true rfl⟩ (fun v hz hp => ?_)
  obtain ⟨rfl, ez⟩ := hp
  obtain rfl := ez.symm
  refine zz_fret C dX2_axleNow_10 rfl rfl ?_
  exact ⟨rfl, rfl⟩

theorem ct_X2_whyNot {l : Launch} {D : va_G} {b0 : Nat} {h : zz_H} {x s0 : Nat} {a : Nat → Int32} {v0 : Int32} (nb : Nat) (h5 : a 5 = nI nb) (hnb : nb ≤ 24) (hw : qa_wk a nb) (lr : Nat) (hv0 : v0 = nI lr) (hl : lr < 3) (hM : tw_M D h x s0 a) : zz_Ct l D b0 yX2_whyNot cX2_whyNot 2 (some .int) 4 94 0 0 [.ref x, .int v0] h (fun v h' => v = some (.int (qa_why a nb v0)) ∧ h' = h) := by
  refine zz_Ct.of zy_X2_whyNot.1 rfl ?_
  intro p e s m below meth c C
  have hM0 := hM
  obtain ⟨fs, hx, hf0, hs⟩ := hM0
  have eln : v0.toNatClampNeg = lr := by rw [hv0]; exact nI_clamp (by omega)
  first | refine zz_aload_n C dX2_whyNot_0 rfl ?_ | refine zz_aload_nN C dX2_whyNot_0 rfl ?_
  refine zz_iload_n C dX2_whyNot_1 rfl ?_
  refine zz_callV C zy_X2_blocksOn (ct_X2_blocksOn nb h5 hnb hM) rfl q1407 (by first | assumption | exact zz_us | exact zz_lk1 (by assumption) (by assumption) | exact zz_lk3 (hd _ _ (by decide) (by decide) (by decide)) (by assumption) | exact zz_uf (by assumption) (by assumption) | exact zz_lk3 (zz_xi (by assumption) (by assumption)) (zz_lk1 (by assumption) (by assumption)) | exact zz_lk3 (hd _ _ (by decide) (by decide) (by decide)) (zz_lk3 (hd _ _ (by decide) (by decide) (by decide)) (by assumption)) | (simp only [zz_up]; simp_all; done)) rfl rfl rfl rfl rfl rfl dX2_whyNot_2 ⟨Nat.le_of_ble_eq_true rfl, Nat.le_of_ble_eq_true rfl⟩ (fun v hz hp => ?_)
  obtain ⟨rfl, ez⟩ := hp
  obtain rfl := ez.symm
  first | refine zz_ifb_ne (tgt := 10) C dX2_whyNot_5 (by decide) (fun c5 => ?_) (fun c5 => ?_) | refine zz_if_ne (tgt := 10) C dX2_whyNot_5 (by decide) (fun c5 => ?_) (fun c5 => ?_)
  · first | refine zz_aload_n C dX2_whyNot_10 rfl ?_ | refine zz_aload_nN C dX2_whyNot_10 rfl ?_
    refine zz_iload_n C dX2_whyNot_11 rfl ?_
    refine zz_callV C zy_X2_hasCracked (ct_X2_hasCracked nb h5 hnb hM) rfl q1411 (by first | assumption | exact zz_us | exact zz_lk1 (by assumption) (by assumption) | exact zz_lk3 (hd _ _ (by decide) (by decide) (by decide)) (by assumption) | exact zz_uf (by assumption) (by assumption) | exact zz_lk3 (zz_xi (by assumption) (by assumption)) (zz_lk1 (by assumption) (by assumption)) | exact zz_lk3 (hd _ _ (by decide) (by decide) (by decide)) (zz_lk3 (hd _ _ (by decide) (by decide) (by decide)) (by assumption)) | (simp only [zz_up]; simp_all; done)) rfl rfl rfl rfl rfl rfl dX2_whyNot_12 ⟨Nat.le_of_ble_eq_true rfl, Nat.le_of_ble_eq_true rfl⟩ (fun v hz hp => ?_)
    obtain ⟨rfl, ez⟩ := hp
    obtain rfl := ez.symm
    first | refine zz_ifb_eq (tgt := 20) C dX2_whyNot_15 (by decide) (fun c15 => ?_) (fun c15 => ?_) | refine zz_if_eq (tgt := 20) C dX2_whyNot_15 (by decide) (fun c15 => ?_) (fun c15 => ?_)
    · first | refine zz_aload_n C dX2_whyNot_20 rfl ?_ | refine zz_aload_nN C dX2_whyNot_20 rfl ?_
      refine zz_iload_n C dX2_whyNot_21 rfl ?_
      refine zz_callV C zy_X2_loadOf (ct_X2_loadOf nb h5 hnb hM) rfl q1387 (by first | assumption | exact zz_us | exact zz_lk1 (by assumption) (by assumption) | exact zz_lk3 (hd _ _ (by decide) (by decide) (by decide)) (by assumption) | exact zz_uf (by assumption) (by assumption) | exact zz_lk3 (zz_xi (by assumption) (by assumption)) (zz_lk1 (by assumption) (by assumption)) | exact zz_lk3 (hd _ _ (by decide) (by decide) (by decide)) (zz_lk3 (hd _ _ (by decide) (by decide) (by decide)) (by assumption)) | (simp only [zz_up]; simp_all; done)) rfl rfl rfl rfl rfl rfl dX2_whyNot_22 ⟨Nat.le_of_ble_eq_true rfl, Nat.le_of_ble_eq_true rfl⟩ (fun v hz hp => ?_)
      obtain ⟨rfl, ez⟩ := hp
      obtain rfl := ez.symm
      first | refine zz_aload_n C dX2_whyNot_25 rfl ?_ | refine zz_aload_nN C dX2_whyNot_25 rfl ?_
      refine zz_get C rfl (by first | assumption | exact zz_us | exact zz_lk1 (by assumption) (by assumption) | exact zz_lk3 (hd _ _ (by decide) (by decide) (by decide)) (by assumption) | exact zz_uf (by assumption) (by assumption) | exact zz_lk3 (zz_xi (by assumption) (by assumption)) (zz_lk1 (by assumption) (by assumption)) | exact zz_lk3 (hd _ _ (by decide) (by decide) (by decide)) (zz_lk3 (hd _ _ (by decide) (by decide) (by decide)) (by assumption)) | (simp only [zz_up]; simp_all; done)) rfl in_X2 0 rfl q1230 (fun _ h => h) (by first | rfl | assumption) dX2_whyNot_26 ?_
      refine zz_iload_n C dX2_whyNot_29 rfl ?_
      refine zz_iconst (v := nI 2) C dX2_whyNot_30 (by decide) ?_
      refine zz_callS C zy_X2_ofLorryAt (ct_X2_ofLorryAt lr 2 hv0 rfl) rfl q1227 rfl rfl rfl rfl rfl dX2_whyNot_31 ⟨Nat.le_of_ble_eq_true rfl, Nat.le_of_ble_eq_true rfl⟩ (fun v hz hp => ?_)
      obtain ⟨rfl, ez⟩ := hp
      obtain rfl := ez.symm
      refine zz_iald C (by first | assumption | exact zz_us | exact zz_lk1 (by assumption) (by assumption) | exact zz_lk3 (hd _ _ (by decide) (by decide) (by decide)) (by assumption) | exact zz_uf (by assumption) (by assumption) | exact zz_lk3 (zz_xi (by assumption) (by assumption)) (zz_lk1 (by assumption) (by assumption)) | exact zz_lk3 (hd _ _ (by decide) (by decide) (by decide)) (zz_lk3 (hd _ _ (by decide) (by decide) (by decide)) (by assumption)) | (simp only [zz_up]; simp_all; done)) rfl (by omega) (by omega) dX2_whyNot_34 ?_
      refine zz_icmp_le (tgt := 40) C dX2_whyNot_35 (by decide) (fun c35 => ?_) (fun c35 => ?_)
      · first | refine zz_aload_n C dX2_whyNot_40 rfl ?_ | refine zz_aload_nN C dX2_whyNot_40 rfl ?_
        refine zz_iload_n C dX2_whyNot_41 rfl ?_
        refine zz_iconst (v := 0) C dX2_whyNot_42 (by decide) ?_
        refine zz_callV C zy_X2_axleNow (ct_X2_axleNow (c0 := false) nb h5 hnb hw hM) rfl q1415 (by first | assumption | exact zz_us | exact zz_lk1 (by assumption) (by assumption) | exact zz_lk3 (hd _ _ (by decide) (by decide) (by decide)) (by assumption) | exact zz_uf (by assumption) (by assumption) | exact zz_lk3 (zz_xi (by assumption) (by assumption)) (zz_lk1 (by assumption) (by assumption)) | exact zz_lk3 (hd _ _ (by decide) (by decide) (by decide)) (zz_lk3 (hd _ _ (by decide) (by decide) (by decide)) (by assumption)) | (simp only [zz_up]; simp_all; done)) rfl rfl rfl rfl rfl rfl dX2_whyNot_43 ⟨Nat.le_of_ble_eq_true rfl, Nat.le_of_ble_eq_true rfl⟩ (fun v hz hp => ?_)
        obtain ⟨rfl, ez⟩ := hp
        obtain rfl := ez.symm
        first | refine zz_aload_n C dX2_whyNot_46 rfl ?_ | refine zz_aload_nN C dX2_whyNot_46 rfl ?_
        refine zz_get C rfl (by first | assumption | exact zz_us | exact zz_lk1 (by assumption) (by assumption) | exact zz_lk3 (hd _ _ (by decide) (by decide) (by decide)) (by assumption) | exact zz_uf (by assumption) (by assumption) | exact zz_lk3 (zz_xi (by assumption) (by assumption)) (zz_lk1 (by assumption) (by assumption)) | exact zz_lk3 (hd _ _ (by decide) (by decide) (by decide)) (zz_lk3 (hd _ _ (by decide) (by decide) (by decide)) (by assumption)) | (simp only [zz_up]; simp_all; done)) rfl in_X2 0 rfl q1230 (fun _ h => h) (by first | rfl | assumption) dX2_whyNot_47 ?_
        refine zz_iload_n C dX2_whyNot_50 rfl ?_
        refine zz_iconst (v := nI 0) C dX2_whyNot_51 (by decide) ?_
        refine zz_callS C zy_X2_ofLorryAt (ct_X2_ofLorryAt lr 0 hv0 rfl) rfl q1227 rfl rfl rfl rfl rfl dX2_whyNot_52 ⟨Nat.le_of_ble_eq_true rfl, Nat.le_of_ble_eq_true rfl⟩ (fun v hz hp => ?_)
        obtain ⟨rfl, ez⟩ := hp
        obtain rfl := ez.symm
        refine zz_iald C (by first | assumption | exact zz_us | exact zz_lk1 (by assumption) (by assumption) | exact zz_lk3 (hd _ _ (by decide) (by decide) (by decide)) (by assumption) | exact zz_uf (by assumption) (by assumption) | exact zz_lk3 (zz_xi (by assumption) (by assumption)) (zz_lk1 (by assumption) (by assumption)) | exact zz_lk3 (hd _ _ (by decide) (by decide) (by decide)) (zz_lk3 (hd _ _ (by decide) (by decide) (by decide)) (by assumption)) | (simp only [zz_up]; simp_all; done)) rfl (by omega) (by omega) dX2_whyNot_55 ?_
        refine zz_i2f C dX2_whyNot_56 ?_
        refine zz_fcmp C dX2_whyNot_57 ?_
        refine zz_if_le (tgt := 65) C dX2_whyNot_58 (by decide) (fun c58 => ?_) (fun c58 => ?_)
        · first | refine zz_aload_n C dX2_whyNot_65 rfl ?_ | refine zz_aload_nN C dX2_whyNot_65 rfl ?_
          refine zz_iload_n C dX2_whyNot_66 rfl ?_
          refine zz_iconst (v := 1) C dX2_whyNot_67 (by decide) ?_
          refine zz_callV C zy_X2_axleNow (ct_X2_axleNow (c0 := true) nb h5 hnb hw hM) rfl q1415 (by first | assumption | exact zz_us | exact zz_lk1 (by assumption) (by assumption) | exact zz_lk3 (hd _ _ (by decide) (by decide) (by decide)) (by assumption) | exact zz_uf (by assumption) (by assumption) | exact zz_lk3 (zz_xi (by assumption) (by assumption)) (zz_lk1 (by assumption) (by assumption)) | exact zz_lk3 (hd _ _ (by decide) (by decide) (by decide)) (zz_lk3 (hd _ _ (by decide) (by decide) (by decide)) (by assumption)) | (simp only [zz_up]; simp_all; done)) rfl rfl rfl rfl rfl rfl dX2_whyNot_68 ⟨Nat.le_of_ble_eq_true rfl, Nat.le_of_ble_eq_true rfl⟩ (fun v hz hp => ?_)
          obtain ⟨rfl, ez⟩ := hp
          obtain rfl := ez.symm
          first | refine zz_aload_n C dX2_whyNot_71 rfl ?_ | refine zz_aload_nN C dX2_whyNot_71 rfl ?_
          refine zz_get C rfl (by first | assumption | exact zz_us | exact zz_lk1 (by assumption) (by assumption) | exact zz_lk3 (hd _ _ (by decide) (by decide) (by decide)) (by assumption) | exact zz_uf (by assumption) (by assumption) | exact zz_lk3 (zz_xi (by assumption) (by assumption)) (zz_lk1 (by assumption) (by assumption)) | exact zz_lk3 (hd _ _ (by decide) (by decide) (by decide)) (zz_lk3 (hd _ _ (by decide) (by decide) (by decide)) (by assumption)) | (simp only [zz_up]; simp_all; done)) rfl in_X2 0 rfl q1230 (fun _ h => h) (by first | rfl | assumption) dX2_whyNot_72 ?_
          refine zz_iload_n C dX2_whyNot_75 rfl ?_
          refine zz_iconst (v := nI 1) C dX2_whyNot_76 (by decide) ?_
          refine zz_callS C zy_X2_ofLorryAt (ct_X2_ofLorryAt lr 1 hv0 rfl) rfl q1227 rfl rfl rfl rfl rfl dX2_whyNot_77 ⟨Nat.le_of_ble_eq_true rfl, Nat.le_of_ble_eq_true rfl⟩ (fun v hz hp => ?_)
          obtain ⟨rfl, ez⟩ := hp
          obtain rfl := ez.symm
          refine zz_iald C (by first | assumption | exact zz_us | exact zz_lk1 (by assumption) (by assumption) | exact zz_lk3 (hd _ _ (by decide) (by decide) (by decide)) (by assumption) | exact zz_uf (by assumption) (by assumption) | exact zz_lk3 (zz_xi (by assumption) (by assumption)) (zz_lk1 (by assumption) (by assumption)) | exact zz_lk3 (hd _ _ (by decide) (by decide) (by decide)) (zz_lk3 (hd _ _ (by decide) (by decide) (by decide)) (by assumption)) | (simp only [zz_up]; simp_all; done)) rfl (by omega) (by omega) dX2_whyNot_80 ?_
          refine zz_i2f C dX2_whyNot_81 ?_
          refine zz_fcmp C dX2_whyNot_82 ?_
          refine zz_if_le (tgt := 90) C dX2_whyNot_83 (by decide) (fun c83 => ?_) (fun c83 => ?_)
          · refine zz_iconst (v := 0) C dX2_whyNot_90 (by decide) ?_
            refine zz_iret C dX2_whyNot_91 rfl rfl ?_
            refine ⟨?_, rfl⟩
            unfold qa_why
            rw [eln]
            first
            | rw [if_pos ‹_›]
            | rw [if_neg ‹_›, if_pos ‹_›]
            | rw [if_neg ‹_›, if_neg (show ¬ qa_hc a nb v0 5 = true from by rw [c15]; decide), if_pos ‹_›]
            | rw [if_neg ‹_›, if_neg (show ¬ qa_hc a nb v0 5 = true from by rw [c15]; decide), if_neg (Decidable.not_not.mpr ‹_›), if_pos ‹_›]
            | rw [if_neg ‹_›, if_neg (show ¬ qa_hc a nb v0 5 = true from by rw [c15]; decide), if_neg (Decidable.not_not.mpr ‹_›), if_neg (Decidable.not_not.mpr ‹_›), if_pos ‹_›]
            | rw [if_neg ‹_›, if_neg (show ¬ qa_hc a nb v0 5 = true from by rw [c15]; decide), if_neg (Decidable.not_not.mpr ‹_›), if_neg (Decidable.not_not.mpr ‹_›), if_neg (Decidable.not_not.mpr ‹_›)]
          · refine zz_iconst (v := 5) C dX2_whyNot_86 (by decide) ?_
            refine zz_goto (tgt := 91) C dX2_whyNot_87 (by decide) ?_
            refine zz_iret C dX2_whyNot_91 rfl rfl ?_
            refine ⟨?_, rfl⟩
            unfold qa_why
            rw [eln]
            first
            | rw [if_pos ‹_›]
            | rw [if_neg ‹_›, if_pos ‹_›]
            | rw [if_neg ‹_›, if_neg (show ¬ qa_hc a nb v0 5 = true from by rw [c15]; decide), if_pos ‹_›]
            | rw [if_neg ‹_›, if_neg (show ¬ qa_hc a nb v0 5 = true from by rw [c15]; decide), if_neg (Decidable.not_not.mpr ‹_›), if_pos ‹_›]
            | rw [if_neg ‹_›, if_neg (show ¬ qa_hc a nb v0 5 = true from by rw [c15]; decide), if_neg (Decidable.not_not.mpr ‹_›), if_neg (Decidable.not_not.mpr ‹_›), if_pos ‹_›]
            | rw [if_neg ‹_›, if_neg (show ¬ qa_hc a nb v0 5 = true from by rw [c15]; decide), if_neg (Decidable.not_not.mpr ‹_›), if_neg (Decidable.not_not.mpr ‹_›), if_neg (Decidable.not_not.mpr ‹_›)]
        · refine zz_iconst (v := 4) C dX2_whyNot_61 (by decide) ?_
          refine zz_goto (tgt := 91) C dX2_whyNot_62 (by decide) ?_
          refine zz_iret C dX2_whyNot_91 rfl rfl ?_
          refine ⟨?_, rfl⟩
          unfold qa_why
          rw [eln]
          first
          | rw [if_pos ‹_›]
          | rw [if_neg ‹_›, if_pos ‹_›]
          | rw [if_neg ‹_›, if_neg (show ¬ qa_hc a nb v0 5 = true from by rw [c15]; decide), if_pos ‹_›]
          | rw [if_neg ‹_›, if_neg (show ¬ qa_hc a nb v0 5 = true from by rw [c15]; decide), if_neg (Decidable.not_not.mpr ‹_›), if_pos ‹_›]
          | rw [if_neg ‹_›, if_neg (show ¬ qa_hc a nb v0 5 = true from by rw [c15]; decide), if_neg (Decidable.not_not.mpr ‹_›), if_neg (Decidable.not_not.mpr ‹_›), if_pos ‹_›]
          | rw [if_neg ‹_›, if_neg (show ¬ qa_hc a nb v0 5 = true from by rw [c15]; decide), if_neg (Decidable.not_not.mpr ‹_›), if_neg (Decidable.not_not.mpr ‹_›), if_neg (Decidable.not_not.mpr ‹_›)]
      · refine zz_iconst (v := 3) C dX2_whyNot_38 (by decide) ?_
        refine zz_iret C dX2_whyNot_39 rfl rfl ?_
        refine ⟨?_, rfl⟩
        unfold qa_why
        rw [eln]
        first
        | rw [if_pos ‹_›]
        | rw [if_neg ‹_›, if_pos ‹_›]
        | rw [if_neg ‹_›, if_neg (show ¬ qa_hc a nb v0 5 = true from by rw [c15]; decide), if_pos ‹_›]
        | rw [if_neg ‹_›, if_neg (show ¬ qa_hc a nb v0 5 = true from by rw [c15]; decide), if_neg (Decidable.not_not.mpr ‹_›), if_pos ‹_›]
        | rw [if_neg ‹_›, if_neg (show ¬ qa_hc a nb v0 5 = true from by rw [c15]; decide), if_neg (Decidable.not_not.mpr ‹_›), if_neg (Decidable.not_not.mpr ‹_›), if_pos ‹_›]
        | rw [if_neg ‹_›, if_neg (show ¬ qa_hc a nb v0 5 = true from by rw [c15]; decide), if_neg (Decidable.not_not.mpr ‹_›), if_neg (Decidable.not_not.mpr ‹_›), if_neg (Decidable.not_not.mpr ‹_›)]
    · refine zz_iconst (v := 2) C dX2_whyNot_18 (by decide) ?_
      refine zz_iret C dX2_whyNot_19 rfl rfl ?_
      refine ⟨?_, rfl⟩
      unfold qa_why
      rw [eln]
      first
      | rw [if_pos ‹_›]
      | rw [if_neg ‹_›, if_pos ‹_›]
      | rw [if_neg ‹_›, if_neg (show ¬ qa_hc a nb v0 5 = true from by rw [c15]; decide), if_pos ‹_›]
      | rw [if_neg ‹_›, if_neg (show ¬ qa_hc a nb v0 5 = true from by rw [c15]; decide), if_neg (Decidable.not_not.mpr ‹_›), if_pos ‹_›]
      | rw [if_neg ‹_›, if_neg (show ¬ qa_hc a nb v0 5 = true from by rw [c15]; decide), if_neg (Decidable.not_not.mpr ‹_›), if_neg (Decidable.not_not.mpr ‹_›), if_pos ‹_›]
      | rw [if_neg ‹_›, if_neg (show ¬ qa_hc a nb v0 5 = true from by rw [c15]; decide), if_neg (Decidable.not_not.mpr ‹_›), if_neg (Decidable.not_not.mpr ‹_›), if_neg (Decidable.not_not.mpr ‹_›)]
  · refine zz_iconst (v := 1) C dX2_whyNot_8 (by decide) ?_
    refine zz_iret C dX2_whyNot_9 rfl rfl ?_
    refine ⟨?_, rfl⟩
    unfold qa_why
    rw [eln]
    first
    | rw [if_pos ‹_›]
    | rw [if_neg ‹_›, if_pos ‹_›]
    | rw [if_neg ‹_›, if_neg (show ¬ qa_hc a nb v0 5 = true from by rw [c15]; decide), if_pos ‹_›]
    | rw [if_neg ‹_›, if_neg (show ¬ qa_hc a nb v0 5 = true from by rw [c15]; decide), if_neg (Decidable.not_not.mpr ‹_›), if_pos ‹_›]
    | rw [if_neg ‹_›, if_neg (show ¬ qa_hc a nb v0 5 = true from by rw [c15]; decide), if_neg (Decidable.not_not.mpr ‹_›), if_neg (Decidable.not_not.mpr ‹_›), if_pos ‹_›]
    | rw [if_neg ‹_›, if_neg (show ¬ qa_hc a nb v0 5 = true from by rw [c15]; decide), if_neg (Decidable.not_not.mpr ‹_›), if_neg (Decidable.not_not.mpr ‹_›), if_neg (Decidable.not_not.mpr ‹_›)]

