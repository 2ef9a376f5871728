/-! the twin: leaving, and what is asked -/
theorem ct_X2_leaves {l : Launch} {D : va_G} {b0 : Nat} {h : zz_H} {x s0 : Nat} {a : Nat → Int32} {v0 : Int32} (nb : Nat) (h5 : a 5 = nI nb) (hnb : nb ≤ 24) (hw : qa_wk a nb) (hob : qa_ob a nb) (hM : tw_M D h x s0 a) : zz_Ct l D b0 yX2_leaves cX2_leaves 5 (some .int) 5 115 0 0 [.ref x, .int v0] h (fun v h' => v = some (.int (op_leaves a v0).1) ∧ h' = zz_up h s0 (.inl (D.1 100, 324, .inl (op_leaves a v0).2))) := by
  refine zz_Ct.of zy_X2_leaves.1 rfl ?_
  intro p e s m below meth c C
  have hM0 := hM
  obtain ⟨fs, hx, hf0, hs⟩ := hM0
  have hn5 : (a 5).toNatClampNeg = nb := by rw [h5]; exact nI_clamp (by omega)
  refine zz_iload_n C dX2_leaves_0 rfl ?_
  refine zz_callS C zy_X2_isLorry (ct_X2_isLorry) rfl q1380 rfl rfl rfl rfl rfl dX2_leaves_1 ⟨Nat.le_of_ble_eq_true rfl, Nat.le_of_ble_eq_true rfl⟩ (fun v hz hp => ?_)
  obtain ⟨rfl, ez⟩ := hp
  obtain rfl := ez.symm
  first | refine zz_ifb_ne (tgt := 9) C dX2_leaves_4 (by decide) (fun c4 => ?_) (fun c4 => ?_) | refine zz_if_ne (tgt := 9) C dX2_leaves_4 (by decide) (fun c4 => ?_) (fun c4 => ?_)
  · obtain ⟨lr, hlr, ev⟩ := qa_ixk 2 (by omega) c4
    have eln : v0.toNatClampNeg = lr := by rw [ev]; exact nI_clamp (by omega)
    first | refine zz_aload_n C dX2_leaves_9 rfl ?_ | refine zz_aload_nN C dX2_leaves_9 rfl ?_
    refine zz_iload_n C dX2_leaves_10 rfl ?_
    refine zz_callV C zy_X2_whyNot (ct_X2_whyNot nb h5 hnb hw lr ev (by omega) hM) rfl q1403 (by first | assumption | exact zz_us | exact zz_lk1 (by assumption) (by assumption) | exact zz_lk3 (hd _ _ (by decide) (by decide) (by decide)) (by assumption) | exact zz_uf (by assumption) (by assumption) | exact zz_lk3 (zz_xi (by assumption) (by assumption)) (zz_lk1 (by assumption) (by assumption)) | exact zz_lk3 (hd _ _ (by decide) (by decide) (by decide)) (zz_lk3 (hd _ _ (by decide) (by decide) (by decide)) (by assumption)) | (simp only [zz_up]; simp_all; done)) rfl rfl rfl rfl rfl rfl dX2_leaves_11 ⟨Nat.le_of_ble_eq_true rfl, Nat.le_of_ble_eq_true rfl⟩ (fun v hz hp => ?_)
    obtain ⟨rfl, ez⟩ := hp
    obtain rfl := ez.symm
    refine zz_if_le (tgt := 20) C dX2_leaves_14 (by decide) (fun c14 => ?_) (fun c14 => ?_)
    · refine zz_iconst (v := 0) C dX2_leaves_20 (by decide) ?_
      refine zz_istore_n C dX2_leaves_21 (by decide) ?_
      refine zz_iconst (v := 0) C dX2_leaves_22 (by decide) ?_
      refine zz_istore_n C dX2_leaves_23 (by decide) ?_
      have L24 : ∀ (n : Nat) (i : Nat), i ≤ 5 → 6 ≤ i + n → zz_V D b0 5 p l e ({ frames := 5, cells := 0, slots := 0, locals := 115 } : Jvm.Room) s m ([.ref x, .int v0] : List Value).toArray below meth c (MQ below (zz_Q D b0 (fun v h' => v = some (.int (op_leaves a v0).1) ∧ h' = zz_up h s0 (.inl (D.1 100, 324, .inl (op_leaves a v0).2)))) ([.ref x, .int v0] : List Value).toArray s 0 0 (fun q => b0 ≤ q)) 0 0 (zz_up h s0 (.inl (D.1 100, 324, .inl ((qa_lv a nb v0 i).2)))) [(0, .ref x), (1, .int v0), (2, .int (qa_lv a nb v0 i).1), (3, .int (nI i))] 24 [] := by
        intro n
        induction n with
        | zero =>
          intro i h1 h2
          exact absurd h2 (by omega)
        | succ n ih =>
          intro i h1 h2
          have e5 : (qa_lv a nb v0 i).2 5 = nI nb := by rw [qa_lv_o v0 hnb hob i 5 (by omega) (by omega) (fun b hb => by omega), h5]
          refine zz_iload_n C dX2_leaves_24 rfl ?_
          refine zz_iconst (v := 5) C dX2_leaves_25 (by decide) ?_
          refine zz_icmp_ge (tgt := 63) C dX2_leaves_26 (by decide) (fun c26 => ?_) (fun c26 => ?_)
          · have hi2 : 5 ≤ i := (nI_leI (a := 5) (by omega) (by omega)).mp c26
            obtain rfl : i = 5 := by omega
            first | refine zz_aload_n C dX2_leaves_63 rfl ?_ | refine zz_aload_nN C dX2_leaves_63 rfl ?_
            refine zz_get C rfl (by first | assumption | exact zz_us | exact zz_lk1 (by assumption) (by assumption) | exact zz_lk3 (hd _ _ (by decide) (by decide) (by decide)) (by assumption) | exact zz_uf (by assumption) (by assumption) | exact zz_lk3 (zz_xi (by assumption) (by assumption)) (zz_lk1 (by assumption) (by assumption)) | exact zz_lk3 (hd _ _ (by decide) (by decide) (by decide)) (zz_lk3 (hd _ _ (by decide) (by decide) (by decide)) (by assumption)) | (simp only [zz_up]; simp_all; done)) rfl in_X2 0 rfl q1230 (fun _ h => h) (by first | rfl | assumption) dX2_leaves_64 ?_
            refine zz_bipush (v := nI 11) C dX2_leaves_67 (by decide) ?_
            refine zz_dup2 C dX2_leaves_69 rfl rfl ?_
            refine zz_iald C (by first | assumption | exact zz_us | exact zz_lk1 (by assumption) (by assumption) | exact zz_lk3 (hd _ _ (by decide) (by decide) (by decide)) (by assumption) | exact zz_uf (by assumption) (by assumption) | exact zz_lk3 (zz_xi (by assumption) (by assumption)) (zz_lk1 (by assumption) (by assumption)) | exact zz_lk3 (hd _ _ (by decide) (by decide) (by decide)) (zz_lk3 (hd _ _ (by decide) (by decide) (by decide)) (by assumption)) | (simp only [zz_up]; simp_all; done)) rfl (by omega) (by omega) dX2_leaves_70 ?_
            refine zz_iload_n C dX2_leaves_71 rfl ?_
            refine zz_iadd C dX2_leaves_72 ?_
            first | refine zz_iast2 C rfl (by omega) (by omega) dX2_leaves_73 ?_ | refine zz_iast C (by first | assumption | exact zz_us | exact zz_lk1 (by assumption) (by assumption) | exact zz_lk3 (hd _ _ (by decide) (by decide) (by decide)) (by assumption) | exact zz_uf (by assumption) (by assumption) | exact zz_lk3 (zz_xi (by assumption) (by assumption)) (zz_lk1 (by assumption) (by assumption)) | exact zz_lk3 (hd _ _ (by decide) (by decide) (by decide)) (zz_lk3 (hd _ _ (by decide) (by decide) (by decide)) (by assumption)) | (simp only [zz_up]; simp_all; done)) rfl (by omega) (by omega) dX2_leaves_73 ?_
            first | refine zz_aload_n C dX2_leaves_74 rfl ?_ | refine zz_aload_nN C dX2_leaves_74 rfl ?_
            refine zz_get C rfl (by first | assumption | exact zz_us | exact zz_lk1 (by assumption) (by assumption) | exact zz_lk3 (hd _ _ (by decide) (by decide) (by decide)) (by assumption) | exact zz_uf (by assumption) (by assumption) | exact zz_lk3 (zz_xi (by assumption) (by assumption)) (zz_lk1 (by assumption) (by assumption)) | exact zz_lk3 (hd _ _ (by decide) (by decide) (by decide)) (zz_lk3 (hd _ _ (by decide) (by decide) (by decide)) (by assumption)) | (simp only [zz_up]; simp_all; done)) rfl in_X2 0 rfl q1230 (fun _ h => h) (by first | rfl | assumption) dX2_leaves_75 ?_
            refine zz_iload_n C dX2_leaves_78 rfl ?_
            refine zz_iconst (v := nI 3) C dX2_leaves_79 (by decide) ?_
            refine zz_callS C zy_X2_ofLorryAt (ct_X2_ofLorryAt lr 3 ev rfl) rfl q1227 rfl rfl rfl rfl rfl dX2_leaves_80 ⟨Nat.le_of_ble_eq_true rfl, Nat.le_of_ble_eq_true rfl⟩ (fun v hz hp => ?_)
            obtain ⟨rfl, ez⟩ := hp
            obtain rfl := ez.symm
            refine zz_dup2 C dX2_leaves_83 rfl rfl ?_
            refine zz_iald C (by first | assumption | exact zz_us | exact zz_lk1 (by assumption) (by assumption) | exact zz_lk3 (hd _ _ (by decide) (by decide) (by decide)) (by assumption) | exact zz_uf (by assumption) (by assumption) | exact zz_lk3 (zz_xi (by assumption) (by assumption)) (zz_lk1 (by assumption) (by assumption)) | exact zz_lk3 (hd _ _ (by decide) (by decide) (by decide)) (zz_lk3 (hd _ _ (by decide) (by decide) (by decide)) (by assumption)) | (simp only [zz_up]; simp_all; done)) rfl (by omega) (by omega) dX2_leaves_84 ?_
            refine zz_iconst (v := 1) C dX2_leaves_85 (by decide) ?_
            refine zz_iadd C dX2_leaves_86 ?_
            first | refine zz_iast2 C rfl (by omega) (by omega) dX2_leaves_87 ?_ | refine zz_iast C (by first | assumption | exact zz_us | exact zz_lk1 (by assumption) (by assumption) | exact zz_lk3 (hd _ _ (by decide) (by decide) (by decide)) (by assumption) | exact zz_uf (by assumption) (by assumption) | exact zz_lk3 (zz_xi (by assumption) (by assumption)) (zz_lk1 (by assumption) (by assumption)) | exact zz_lk3 (hd _ _ (by decide) (by decide) (by decide)) (zz_lk3 (hd _ _ (by decide) (by decide) (by decide)) (by assumption)) | (simp only [zz_up]; simp_all; done)) rfl (by omega) (by omega) dX2_leaves_87 ?_
            refine zz_iload_n C dX2_leaves_88 rfl ?_
            refine zz_iret C dX2_leaves_89 rfl rfl ?_
            first
            | (have eo : op_leaves a v0 = (-1, a) := if_pos ‹_›
               rw [eo]
               exact ⟨rfl, (zz_upsame hs).symm⟩)
            | (have eo : op_leaves a v0 = (-5, a) := by unfold op_leaves; rw [hn5, if_neg (zz_tf c4), if_pos c14]
               rw [eo]
               exact ⟨rfl, (zz_upsame hs).symm⟩)
            | (have eo : op_leaves a v0 = ((qa_lv a nb v0 5).1, qa_left (qa_lv a nb v0 5).2 (312 + 4 * lr + 3) (qa_lv a nb v0 5).1) := by unfold op_leaves; rw [hn5, eln, if_neg (zz_tf c4), if_neg (Decidable.not_not.mpr ‹_›)]
               rw [eo]
               exact ⟨rfl, rfl⟩)
          · have hi2 : i < 5 := Nat.not_le.mp (fun q => c26 (nI_le (a := 5) q (by omega)))
            first | refine zz_aload_n C dX2_leaves_29 rfl ?_ | refine zz_aload_nN C dX2_leaves_29 rfl ?_
            refine zz_iload_n C dX2_leaves_30 rfl ?_
            refine zz_iload_n C dX2_leaves_31 rfl ?_
            refine zz_callV C zy_X2_blockAt (ct_X2_blockAt (a := (qa_lv a nb v0 i).2) nb e5 hnb ⟨fs, zz_lk1 hx hs, hf0, zz_us⟩) rfl q1383 (by first | assumption | exact zz_us | exact zz_lk1 (by assumption) (by assumption) | exact zz_lk3 (hd _ _ (by decide) (by decide) (by decide)) (by assumption) | exact zz_uf (by assumption) (by assumption) | exact zz_lk3 (zz_xi (by assumption) (by assumption)) (zz_lk1 (by assumption) (by assumption)) | exact zz_lk3 (hd _ _ (by decide) (by decide) (by decide)) (zz_lk3 (hd _ _ (by decide) (by decide) (by decide)) (by assumption)) | (simp only [zz_up]; simp_all; done)) rfl rfl rfl rfl rfl rfl dX2_leaves_32 ⟨Nat.le_of_ble_eq_true rfl, Nat.le_of_ble_eq_true rfl⟩ (fun v hz hp => ?_)
            obtain ⟨rfl, ez⟩ := hp
            obtain rfl := ez.symm
            refine zz_istore C dX2_leaves_35 (by decide) ?_
            refine zz_iload_n C dX2_leaves_37 rfl ?_
            refine zz_iload C dX2_leaves_38 rfl ?_
            refine zz_bipush (v := (-6)) C dX2_leaves_40 (by decide) ?_
            refine zz_icmp_ne (tgt := 49) C dX2_leaves_42 (by decide) (fun c42 => ?_) (fun c42 => ?_)
            · obtain ⟨b, hb, eb, -⟩ := qa_find_i c42
              have ebc : (qa_find ((qa_lv a nb v0 i).2) (5 * v0 + nI i) nb).toNatClampNeg = b := by rw [eb]; exact nI_clamp (by omega)
              first | refine zz_aload_n C dX2_leaves_49 rfl ?_ | refine zz_aload_nN C dX2_leaves_49 rfl ?_
              refine zz_iload C dX2_leaves_50 rfl ?_
              refine zz_callV C zy_X2_delivers (ct_X2_delivers (a := (qa_lv a nb v0 i).2) b eb (by omega) ((qa_lv_ob v0 hnb hob i) b hb) ⟨fs, zz_lk1 hx hs, hf0, zz_us⟩) rfl q1424 (by first | assumption | exact zz_us | exact zz_lk1 (by assumption) (by assumption) | exact zz_lk3 (hd _ _ (by decide) (by decide) (by decide)) (by assumption) | exact zz_uf (by assumption) (by assumption) | exact zz_lk3 (zz_xi (by assumption) (by assumption)) (zz_lk1 (by assumption) (by assumption)) | exact zz_lk3 (hd _ _ (by decide) (by decide) (by decide)) (zz_lk3 (hd _ _ (by decide) (by decide) (by decide)) (by assumption)) | (simp only [zz_up]; simp_all; done)) rfl rfl rfl rfl rfl rfl dX2_leaves_52 ⟨Nat.le_of_ble_eq_true rfl, Nat.le_of_ble_eq_true rfl⟩ (fun v hz hp => ?_)
              obtain ⟨rfl, ez⟩ := hp
              obtain rfl := ez.symm
              rw [zz_upup]
              refine zz_iadd C dX2_leaves_55 ?_
              refine zz_istore_n C dX2_leaves_56 (by decide) ?_
              refine zz_iinc C dX2_leaves_57 rfl (by first | exact nI_1 _ | exact (rfl : _ + Int32.ofInt 1 = _ + 1)) (by decide) ?_
              refine zz_goto (tgt := 24) C dX2_leaves_60 (by decide) ?_
              first
              | (have e1 : qa_lv a nb v0 (i + 1) = ((qa_lv a nb v0 i).1 + 0, (qa_lv a nb v0 i).2) := if_pos c42
                 have L := ih (i + 1) (by omega) (by omega)
                 rw [e1] at L
                 exact zz_loc2 L ⟨rfl, rfl, rfl, rfl, trivial⟩)
              | (have e1 : qa_lv a nb v0 (i + 1) = ((qa_lv a nb v0 i).1 + qa_inv ((qa_lv a nb v0 i).2) b, qa_del ((qa_lv a nb v0 i).2) b) := by rw [show qa_lv a nb v0 (i + 1) = _ from if_neg c42, ebc]
                 have L := ih (i + 1) (by omega) (by omega)
                 rw [e1] at L
                 exact zz_loc2 L ⟨rfl, rfl, rfl, rfl, trivial⟩)
            · refine zz_iconst (v := 0) C dX2_leaves_45 (by decide) ?_
              refine zz_goto (tgt := 55) C dX2_leaves_46 (by decide) ?_
              refine zz_iadd C dX2_leaves_55 ?_
              refine zz_istore_n C dX2_leaves_56 (by decide) ?_
              refine zz_iinc C dX2_leaves_57 rfl (by first | exact nI_1 _ | exact (rfl : _ + Int32.ofInt 1 = _ + 1)) (by decide) ?_
              refine zz_goto (tgt := 24) C dX2_leaves_60 (by decide) ?_
              first
              | (have e1 : qa_lv a nb v0 (i + 1) = ((qa_lv a nb v0 i).1 + 0, (qa_lv a nb v0 i).2) := if_pos c42
                 have L := ih (i + 1) (by omega) (by omega)
                 rw [e1] at L
                 exact zz_loc2 L ⟨rfl, rfl, rfl, rfl, trivial⟩)
              | (have e1 : qa_lv a nb v0 (i + 1) = ((qa_lv a nb v0 i).1 + qa_inv ((qa_lv a nb v0 i).2) b, qa_del ((qa_lv a nb v0 i).2) b) := by rw [show qa_lv a nb v0 (i + 1) = _ from if_neg c42, ebc]
                 have L := ih (i + 1) (by omega) (by omega)
                 rw [e1] at L
                 exact zz_loc2 L ⟨rfl, rfl, rfl, rfl, trivial⟩)
      have L0 := L24 6 0 (by omega) (by omega)
      rw [show (qa_lv a nb v0 0).2 = a from rfl, zz_upsame hs] at L0
      exact zz_loc2 L0 ⟨rfl, rfl, rfl, rfl, trivial⟩
    · refine zz_bipush (v := (-5)) C dX2_leaves_17 (by decide) ?_
      refine zz_iret C dX2_leaves_19 rfl rfl ?_
      first
      | (have eo : op_leaves a v0 = (-1, a) := if_pos ‹_›
         rw [eo]
         exact ⟨rfl, (zz_upsame hs).symm⟩)
      | (have eo : op_leaves a v0 = (-5, a) := by unfold op_leaves; rw [hn5, if_neg (zz_tf c4), if_pos c14]
         rw [eo]
         exact ⟨rfl, (zz_upsame hs).symm⟩)
      | (have eo : op_leaves a v0 = ((qa_lv a nb v0 5).1, qa_left (qa_lv a nb v0 5).2 (312 + 4 * lr + 3) (qa_lv a nb v0 5).1) := by unfold op_leaves; rw [hn5, eln, if_neg (zz_tf c4), if_neg (Decidable.not_not.mpr ‹_›)]
         rw [eo]
         exact ⟨rfl, rfl⟩)
  · refine zz_iconst (v := (-1)) C dX2_leaves_7 (by decide) ?_
    refine zz_iret C dX2_leaves_8 rfl rfl ?_
    first
    | (have eo : op_leaves a v0 = (-1, a) := if_pos ‹_›
       rw [eo]
       exact ⟨rfl, (zz_upsame hs).symm⟩)
    | (have eo : op_leaves a v0 = (-5, a) := by unfold op_leaves; rw [hn5, if_neg (zz_tf c4), if_pos c14]
       rw [eo]
       exact ⟨rfl, (zz_upsame hs).symm⟩)
    | (have eo : op_leaves a v0 = ((qa_lv a nb v0 5).1, qa_left (qa_lv a nb v0 5).2 (312 + 4 * lr + 3) (qa_lv a nb v0 5).1) := by unfold op_leaves; rw [hn5, eln, if_neg (zz_tf c4), if_neg (Decidable.not_not.mpr ‹_›)]
       rw [eo]
       exact ⟨rfl, rfl⟩)

theorem ct_X2_of {l : Launch} {D : va_G} {b0 : Nat} {h : zz_H} {x s0 : Nat} {a : Nat → Int32} {v0 v1 : Int32} (nb : Nat) (h5 : a 5 = nI nb) (hnb : nb ≤ 24) (hM : tw_M D h x s0 a) : zz_Ct l D b0 yX2_of cX2_of 3 (some .int) 2 43 0 0 [.ref x, .int v0, .int v1] h (fun v h' => v = some (.int (op_of a v0 v1)) ∧ h' = h) := by
  refine zz_Ct.of zy_X2_of.1 rfl ?_
  intro p e s m below meth c C
  have hM0 := hM
  obtain ⟨fs, hx, hf0, hs⟩ := hM0
  first | refine zz_aload_n C dX2_of_0 rfl ?_ | refine zz_aload_nN C dX2_of_0 rfl ?_
  refine zz_iload_n C dX2_of_1 rfl ?_
  refine zz_callV C zy_X2_isBlock (ct_X2_isBlock hM) rfl q1321 (by first | assumption | exact zz_us | exact zz_lk1 (by assumption) (by assumption) | exact zz_lk3 (hd _ _ (by decide) (by decide) (by decide)) (by assumption) | exact zz_uf (by assumption) (by assumption) | exact zz_lk3 (zz_xi (by assumption) (by assumption)) (zz_lk1 (by assumption) (by assumption)) | exact zz_lk3 (hd _ _ (by decide) (by decide) (by decide)) (zz_lk3 (hd _ _ (by decide) (by decide) (by decide)) (by assumption)) | (simp only [zz_up]; simp_all; done)) rfl rfl rfl rfl rfl rfl dX2_of_2 ⟨Nat.le_of_ble_eq_true rfl, Nat.le_of_ble_eq_true rfl⟩ (fun v hz hp => ?_)
  obtain ⟨rfl, ez⟩ := hp
  obtain rfl := ez.symm
  first | refine zz_ifb_ne (tgt := 10) C dX2_of_5 (by decide) (fun c5 => ?_) (fun c5 => ?_) | refine zz_if_ne (tgt := 10) C dX2_of_5 (by decide) (fun c5 => ?_) (fun c5 => ?_)
  · obtain ⟨b, hb, ev⟩ := qa_ix (n := nb) (by omega) (by rw [← h5]; assumption)
    have ebn : v0.toNatClampNeg = b := by rw [ev]; exact nI_clamp (by omega)
    refine zz_iload_n C dX2_of_10 rfl ?_
    refine zz_iconst (v := 4) C dX2_of_11 (by decide) ?_
    refine zz_icmp_ne (tgt := 23) C dX2_of_12 (by decide) (fun c12 => ?_) (fun c12 => ?_)
    · refine zz_iload_n C dX2_of_23 rfl ?_
      refine zz_iconst (v := 0) C dX2_of_24 (by decide) ?_
      refine zz_iconst (v := 3) C dX2_of_25 (by decide) ?_
      refine zz_callS C zy_X2_in (ct_X2_in) rfl q1272 rfl rfl rfl rfl rfl dX2_of_26 ⟨Nat.le_of_ble_eq_true rfl, Nat.le_of_ble_eq_true rfl⟩ (fun v hz hp => ?_)
      obtain ⟨rfl, ez⟩ := hp
      obtain rfl := ez.symm
      first | refine zz_ifb_eq (tgt := 45) C dX2_of_29 (by decide) (fun c29 => ?_) (fun c29 => ?_) | refine zz_if_eq (tgt := 45) C dX2_of_29 (by decide) (fun c29 => ?_) (fun c29 => ?_)
      · refine zz_iload_n C dX2_of_45 rfl ?_
        refine zz_iconst (v := 5) C dX2_of_46 (by decide) ?_
        refine zz_bipush (v := 10) C dX2_of_47 (by decide) ?_
        refine zz_callS C zy_X2_in (ct_X2_in) rfl q1272 rfl rfl rfl rfl rfl dX2_of_49 ⟨Nat.le_of_ble_eq_true rfl, Nat.le_of_ble_eq_true rfl⟩ (fun v hz hp => ?_)
        obtain ⟨rfl, ez⟩ := hp
        obtain rfl := ez.symm
        first | refine zz_ifb_eq (tgt := 70) C dX2_of_52 (by decide) (fun c52 => ?_) (fun c52 => ?_) | refine zz_if_eq (tgt := 70) C dX2_of_52 (by decide) (fun c52 => ?_) (fun c52 => ?_)
        · refine zz_bipush (v := (-2)) C dX2_of_70 (by decide) ?_
          refine zz_iret C dX2_of_72 rfl rfl ?_
          refine ⟨?_, rfl⟩
          unfold op_of
          first
          | rw [if_pos c5]
          | rw [if_neg (zz_tf c5), ebn, if_pos c12]
          | rw [if_neg (zz_tf c5), ebn, if_neg c12, if_pos c29, ekn]
          | rw [if_neg (zz_tf c5), ebn, if_neg c12, if_neg (show ¬ qa_in v1 0 3 = true from by rw [c29]; decide), if_pos c52, ekn]
          | rw [if_neg (zz_tf c5), ebn, if_neg c12, if_neg (show ¬ qa_in v1 0 3 = true from by rw [c29]; decide), if_neg (show ¬ qa_in v1 5 10 = true from by rw [c52]; decide)]
        · obtain ⟨k, hk0, hk, ek⟩ := qa_ixl 5 10 (by omega) c52 (by omega)
          have ekn : v1.toNatClampNeg = k := by rw [ek]; exact nI_clamp (by omega)
          first | refine zz_aload_n C dX2_of_55 rfl ?_ | refine zz_aload_nN C dX2_of_55 rfl ?_
          refine zz_get C rfl (by first | assumption | exact zz_us | exact zz_lk1 (by assumption) (by assumption) | exact zz_lk3 (hd _ _ (by decide) (by decide) (by decide)) (by assumption) | exact zz_uf (by assumption) (by assumption) | exact zz_lk3 (zz_xi (by assumption) (by assumption)) (zz_lk1 (by assumption) (by assumption)) | exact zz_lk3 (hd _ _ (by decide) (by decide) (by decide)) (zz_lk3 (hd _ _ (by decide) (by decide) (by decide)) (by assumption)) | (simp only [zz_up]; simp_all; done)) rfl in_X2 0 rfl q1230 (fun _ h => h) (by first | rfl | assumption) dX2_of_56 ?_
          refine zz_iload_n C dX2_of_59 rfl ?_
          refine zz_iload_n C dX2_of_60 rfl ?_
          refine zz_iconst (v := 1) C dX2_of_61 (by decide) ?_
          refine zz_isub C dX2_of_62 ?_
          refine zz_callS C zy_X2_at (ct_X2_at b (k - 1) ev (by rw [ek]; exact pk_sub (b := 1) (by omega))) rfl q1310 rfl rfl rfl rfl rfl dX2_of_63 ⟨Nat.le_of_ble_eq_true rfl, Nat.le_of_ble_eq_true rfl⟩ (fun v hz hp => ?_)
          obtain ⟨rfl, ez⟩ := hp
          obtain rfl := ez.symm
          refine zz_iald C (by first | assumption | exact zz_us | exact zz_lk1 (by assumption) (by assumption) | exact zz_lk3 (hd _ _ (by decide) (by decide) (by decide)) (by assumption) | exact zz_uf (by assumption) (by assumption) | exact zz_lk3 (zz_xi (by assumption) (by assumption)) (zz_lk1 (by assumption) (by assumption)) | exact zz_lk3 (hd _ _ (by decide) (by decide) (by decide)) (zz_lk3 (hd _ _ (by decide) (by decide) (by decide)) (by assumption)) | (simp only [zz_up]; simp_all; done)) rfl (by omega) (by omega) dX2_of_66 ?_
          refine zz_goto (tgt := 72) C dX2_of_67 (by decide) ?_
          refine zz_iret C dX2_of_72 rfl rfl ?_
          refine ⟨?_, rfl⟩
          unfold op_of
          first
          | rw [if_pos c5]
          | rw [if_neg (zz_tf c5), ebn, if_pos c12]
          | rw [if_neg (zz_tf c5), ebn, if_neg c12, if_pos c29, ekn]
          | rw [if_neg (zz_tf c5), ebn, if_neg c12, if_neg (show ¬ qa_in v1 0 3 = true from by rw [c29]; decide), if_pos c52, ekn]
          | rw [if_neg (zz_tf c5), ebn, if_neg c12, if_neg (show ¬ qa_in v1 0 3 = true from by rw [c29]; decide), if_neg (show ¬ qa_in v1 5 10 = true from by rw [c52]; decide)]
      · obtain ⟨k, hk, ek⟩ := qa_ixk 3 (by omega) c29
        have ekn : v1.toNatClampNeg = k := by rw [ek]; exact nI_clamp (by omega)
        first | refine zz_aload_n C dX2_of_32 rfl ?_ | refine zz_aload_nN C dX2_of_32 rfl ?_
        refine zz_get C rfl (by first | assumption | exact zz_us | exact zz_lk1 (by assumption) (by assumption) | exact zz_lk3 (hd _ _ (by decide) (by decide) (by decide)) (by assumption) | exact zz_uf (by assumption) (by assumption) | exact zz_lk3 (zz_xi (by assumption) (by assumption)) (zz_lk1 (by assumption) (by assumption)) | exact zz_lk3 (hd _ _ (by decide) (by decide) (by decide)) (zz_lk3 (hd _ _ (by decide) (by decide) (by decide)) (by assumption)) | (simp only [zz_up]; simp_all; done)) rfl in_X2 0 rfl q1230 (fun _ h => h) (by first | rfl | assumption) dX2_of_33 ?_
        refine zz_iload_n C dX2_of_36 rfl ?_
        refine zz_iload_n C dX2_of_37 rfl ?_
        refine zz_callS C zy_X2_at (ct_X2_at b k ev ek) rfl q1310 rfl rfl rfl rfl rfl dX2_of_38 ⟨Nat.le_of_ble_eq_true rfl, Nat.le_of_ble_eq_true rfl⟩ (fun v hz hp => ?_)
        obtain ⟨rfl, ez⟩ := hp
        obtain rfl := ez.symm
        refine zz_iald C (by first | assumption | exact zz_us | exact zz_lk1 (by assumption) (by assumption) | exact zz_lk3 (hd _ _ (by decide) (by decide) (by decide)) (by assumption) | exact zz_uf (by assumption) (by assumption) | exact zz_lk3 (zz_xi (by assumption) (by assumption)) (zz_lk1 (by assumption) (by assumption)) | exact zz_lk3 (hd _ _ (by decide) (by decide) (by decide)) (zz_lk3 (hd _ _ (by decide) (by decide) (by decide)) (by assumption)) | (simp only [zz_up]; simp_all; done)) rfl (by omega) (by omega) dX2_of_41 ?_
        refine zz_goto (tgt := 72) C dX2_of_42 (by decide) ?_
        refine zz_iret C dX2_of_72 rfl rfl ?_
        refine ⟨?_, rfl⟩
        unfold op_of
        first
        | rw [if_pos c5]
        | rw [if_neg (zz_tf c5), ebn, if_pos c12]
        | rw [if_neg (zz_tf c5), ebn, if_neg c12, if_pos c29, ekn]
        | rw [if_neg (zz_tf c5), ebn, if_neg c12, if_neg (show ¬ qa_in v1 0 3 = true from by rw [c29]; decide), if_pos c52, ekn]
        | rw [if_neg (zz_tf c5), ebn, if_neg c12, if_neg (show ¬ qa_in v1 0 3 = true from by rw [c29]; decide), if_neg (show ¬ qa_in v1 5 10 = true from by rw [c52]; decide)]
    · first | refine zz_aload_n C dX2_of_15 rfl ?_ | refine zz_aload_nN C dX2_of_15 rfl ?_
      refine zz_iload_n C dX2_of_16 rfl ?_
      refine zz_callV C zy_X2_weight (ct_X2_weight b ev (by omega) hM) rfl q1313 (by first | assumption | exact zz_us | exact zz_lk1 (by assumption) (by assumption) | exact zz_lk3 (hd _ _ (by decide) (by decide) (by decide)) (by assumption) | exact zz_uf (by assumption) (by assumption) | exact zz_lk3 (zz_xi (by assumption) (by assumption)) (zz_lk1 (by assumption) (by assumption)) | exact zz_lk3 (hd _ _ (by decide) (by decide) (by decide)) (zz_lk3 (hd _ _ (by decide) (by decide) (by decide)) (by assumption)) | (simp only [zz_up]; simp_all; done)) rfl rfl rfl rfl rfl rfl dX2_of_17 ⟨Nat.le_of_ble_eq_true rfl, Nat.le_of_ble_eq_true rfl⟩ (fun v hz hp => ?_)
      obtain ⟨rfl, ez⟩ := hp
      obtain rfl := ez.symm
      refine zz_goto (tgt := 72) C dX2_of_20 (by decide) ?_
      refine zz_iret C dX2_of_72 rfl rfl ?_
      refine ⟨?_, rfl⟩
      unfold op_of
      first
      | rw [if_pos c5]
      | rw [if_neg (zz_tf c5), ebn, if_pos c12]
      | rw [if_neg (zz_tf c5), ebn, if_neg c12, if_pos c29, ekn]
      | rw [if_neg (zz_tf c5), ebn, if_neg c12, if_neg (show ¬ qa_in v1 0 3 = true from by rw [c29]; decide), if_pos c52, ekn]
      | rw [if_neg (zz_tf c5), ebn, if_neg c12, if_neg (show ¬ qa_in v1 0 3 = true from by rw [c29]; decide), if_neg (show ¬ qa_in v1 5 10 = true from by rw [c52]; decide)]
  · refine zz_iconst (v := (-1)) C dX2_of_8 (by decide) ?_
    refine zz_iret C dX2_of_9 rfl rfl ?_
    refine ⟨?_, rfl⟩
    unfold op_of
    first
    | rw [if_pos c5]
    | rw [if_neg (zz_tf c5), ebn, if_pos c12]
    | rw [if_neg (zz_tf c5), ebn, if_neg c12, if_pos c29, ekn]
    | rw [if_neg (zz_tf c5), ebn, if_neg c12, if_neg (show ¬ qa_in v1 0 3 = true from by rw [c29]; decide), if_pos c52, ekn]
    | rw [if_neg (zz_tf c5), ebn, if_neg c12, if_neg (show ¬ qa_in v1 0 3 = true from by rw [c29]; decide), if_neg (show ¬ qa_in v1 5 10 = true from by rw [c52]; decide)]

theorem ct_X2_couldBeGiven {l : Launch} {D : va_G} {b0 : Nat} {h : zz_H} {x : Nat} {ad : Nat → Nat} {a ah hi : Nat → Int32} {kp : Nat} {sl sv pd : Nat → Int32} {len : Nat} {so : Nat → Int32} {pos wr : Int32} {to : Nat → Int32} {v0 : Int32} (nb : Nat) (h5 : a 5 = nI nb) (hnb : nb ≤ 24) (o : Nat) (hv0 : v0 = nI o) (ho : o < 10) (hX : tw_X D h x ad a ah hi kp sl sv pd len so pos wr to) : zz_Ct l D b0 yX2_couldBeGiven cX2_couldBeGiven 4 (some .int) 4 98 0 0 [.ref x, .int v0] h (fun v h' => ∃ g : Nat → Int32, v = some (.int (qa_or (qa_can a o) nb)) ∧ h' = zz_up h (ad 6) (.inl (D.1 100, 3, .inl g))) := by
  refine zz_Ct.of zy_X2_couldBeGiven.1 rfl ?_
  intro p e s m below meth c C
  have hM := hX.M
  obtain ⟨hx, h0, h1a, h2a, h3a, h4a, h5a, h6, h7, hd⟩ := id hX
  refine zz_iconst (v := 0) C dX2_couldBeGiven_0 (by decide) ?_
  refine zz_istore_n C dX2_couldBeGiven_1 (by decide) ?_
  refine zz_iconst (v := 0) C dX2_couldBeGiven_2 (by decide) ?_
  refine zz_istore_n C dX2_couldBeGiven_3 (by decide) ?_
  have L4 : ∀ (n : Nat) (i : Nat) (g : Nat → Int32), i ≤ nb → nb + 1 ≤ i + n → zz_V D b0 4 p l e ({ frames := 4, cells := 0, slots := 0, locals := 98 } : Jvm.Room) s m ([.ref x, .int v0] : List Value).toArray below meth c (MQ below (zz_Q D b0 (fun v h' => ∃ g : Nat → Int32, v = some (.int (qa_or (qa_can a o) nb)) ∧ h' = zz_up h (ad 6) (.inl (D.1 100, 3, .inl g)))) ([.ref x, .int v0] : List Value).toArray s 0 0 (fun q => b0 ≤ q)) 0 0 (zz_up h (ad 6) (.inl (D.1 100, 3, .inl g))) [(0, .ref x), (1, .int v0), (2, .int (qa_or (qa_can a o) i)), (3, .int (nI i))] 4 [] := by
    intro n
    induction n with
    | zero =>
      intro i g h1 h2
      exact absurd h2 (by omega)
    | succ n ih =>
      intro i g h1 h2
      refine zz_iload_n C dX2_couldBeGiven_4 rfl ?_
      first | refine zz_aload_n C dX2_couldBeGiven_5 rfl ?_ | refine zz_aload_nN C dX2_couldBeGiven_5 rfl ?_
      refine zz_get C rfl (by first | assumption | exact zz_us | exact zz_lk1 (by assumption) (by assumption) | exact zz_lk3 (hd _ _ (by decide) (by decide) (by decide)) (by assumption) | exact zz_uf (by assumption) (by assumption) | exact zz_lk3 (zz_xi (by assumption) (by assumption)) (zz_lk1 (by assumption) (by assumption)) | exact zz_lk3 (hd _ _ (by decide) (by decide) (by decide)) (zz_lk3 (hd _ _ (by decide) (by decide) (by decide)) (by assumption)) | (simp only [zz_up]; simp_all; done)) rfl in_X2 0 rfl q1230 (fun _ h => h) (by first | rfl | assumption) dX2_couldBeGiven_6 ?_
      refine zz_iconst (v := nI 5) C dX2_couldBeGiven_9 (by decide) ?_
      refine zz_iald C (by first | assumption | exact zz_us | exact zz_lk1 (by assumption) (by assumption) | exact zz_lk3 (hd _ _ (by decide) (by decide) (by decide)) (by assumption) | exact zz_uf (by assumption) (by assumption) | exact zz_lk3 (zz_xi (by assumption) (by assumption)) (zz_lk1 (by assumption) (by assumption)) | exact zz_lk3 (hd _ _ (by decide) (by decide) (by decide)) (zz_lk3 (hd _ _ (by decide) (by decide) (by decide)) (by assumption)) | (simp only [zz_up]; simp_all; done)) rfl (by omega) (by omega) dX2_couldBeGiven_10 ?_
      refine zz_icmp_ge (tgt := 39) C dX2_couldBeGiven_11 (by decide) (fun c11 => ?_) (fun c11 => ?_)
      · have hi2 : nb ≤ i := (nI_leI (by omega) (by omega)).mp (by rw [← h5]; exact c11)
        obtain rfl : i = nb := by omega
        refine zz_iload_n C dX2_couldBeGiven_39 rfl ?_
        refine zz_iret C dX2_couldBeGiven_40 rfl rfl ?_
        exact ⟨g, rfl, rfl⟩
      · have hi2 : i < nb := Nat.not_le.mp (fun q => c11 (by rw [h5]; exact nI_le q (by omega)))
        refine zz_iload_n C dX2_couldBeGiven_14 rfl ?_
        first | refine zz_aload_n C dX2_couldBeGiven_15 rfl ?_ | refine zz_aload_nN C dX2_couldBeGiven_15 rfl ?_
        refine zz_iload_n C dX2_couldBeGiven_16 rfl ?_
        refine zz_iload_n C dX2_couldBeGiven_17 rfl ?_
        refine zz_callV C zy_X2_canGive (ct_X2_canGive o i hv0 ho rfl (by omega) (hX.u6 g)) rfl q1364 (by first | assumption | exact zz_us | exact zz_lk1 (by assumption) (by assumption) | exact zz_lk3 (hd _ _ (by decide) (by decide) (by decide)) (by assumption) | exact zz_uf (by assumption) (by assumption) | exact zz_lk3 (zz_xi (by assumption) (by assumption)) (zz_lk1 (by assumption) (by assumption)) | exact zz_lk3 (hd _ _ (by decide) (by decide) (by decide)) (zz_lk3 (hd _ _ (by decide) (by decide) (by decide)) (by assumption)) | (simp only [zz_up]; simp_all; done)) rfl rfl rfl rfl rfl rfl dX2_couldBeGiven_18 ⟨Nat.le_of_ble_eq_true rfl, Nat.le_of_ble_eq_true rfl⟩ (fun v hz hp => ?_)
        obtain ⟨g2, rfl, ez⟩ := hp
        rw [zz_upup] at ez
        obtain rfl := ez.symm
        first | refine zz_ifb_eq (tgt := 30) C dX2_couldBeGiven_21 (by decide) (fun c21 => ?_) (fun c21 => ?_) | refine zz_if_eq (tgt := 30) C dX2_couldBeGiven_21 (by decide) (fun c21 => ?_) (fun c21 => ?_)
        · refine zz_iconst (v := 0) C dX2_couldBeGiven_30 (by decide) ?_
          refine zz_ior C dX2_couldBeGiven_31 ?_
          refine zz_istore_n C dX2_couldBeGiven_32 (by decide) ?_
          refine zz_iinc C dX2_couldBeGiven_33 rfl (by first | exact nI_1 _ | exact (rfl : _ + Int32.ofInt 1 = _ + 1)) (by decide) ?_
          refine zz_goto (tgt := 4) C dX2_couldBeGiven_36 (by decide) ?_
          refine zz_loc2 (ih (i + 1) _ (by omega) (by omega)) ⟨rfl, rfl, ?_, rfl, trivial⟩
          clear ih
          show some _ = some _
          first | rfl | (simp_all [qa_or, zz_b, -Int32.not_le, -Int32.not_lt]; done)
        · refine zz_iconst (v := 1) C dX2_couldBeGiven_24 (by decide) ?_
          refine zz_iload_n C dX2_couldBeGiven_25 rfl ?_
          refine zz_ishl C dX2_couldBeGiven_26 ?_
          refine zz_goto (tgt := 31) C dX2_couldBeGiven_27 (by decide) ?_
          refine zz_ior C dX2_couldBeGiven_31 ?_
          refine zz_istore_n C dX2_couldBeGiven_32 (by decide) ?_
          refine zz_iinc C dX2_couldBeGiven_33 rfl (by first | exact nI_1 _ | exact (rfl : _ + Int32.ofInt 1 = _ + 1)) (by decide) ?_
          refine zz_goto (tgt := 4) C dX2_couldBeGiven_36 (by decide) ?_
          refine zz_loc2 (ih (i + 1) _ (by omega) (by omega)) ⟨rfl, rfl, ?_, rfl, trivial⟩
          clear ih
          show some _ = some _
          first | rfl | (simp_all [qa_or, zz_b, -Int32.not_le, -Int32.not_lt]; done)
  have L0 := L4 (nb + 1) 0 so (by omega) (by omega)
  rw [zz_upsame h6] at L0
  exact zz_loc2 L0 ⟨rfl, rfl, rfl, rfl, trivial⟩

theorem ct_X2_ofOrder {l : Launch} {D : va_G} {b0 : Nat} {h : zz_H} {x : Nat} {ad : Nat → Nat} {a ah hi : Nat → Int32} {kp : Nat} {sl sv pd : Nat → Int32} {len : Nat} {so : Nat → Int32} {pos wr : Int32} {to : Nat → Int32} {v0 v1 : Int32} (nb : Nat) (h5 : a 5 = nI nb) (hnb : nb ≤ 24) (no : Nat) (h6o : a 6 = nI no) (hno : no ≤ 10) (hX : tw_X D h x ad a ah hi kp sl sv pd len so pos wr to) : zz_Ct l D b0 yX2_ofOrder cX2_ofOrder 3 (some .int) 5 121 0 0 [.ref x, .int v0, .int v1] h (fun v h' => v = some (.int (op_ofOrder a v0 v1)) ∧ tw_G D h ad h' a) := by
  refine zz_Ct.of zy_X2_ofOrder.1 rfl ?_
  intro p e s m below meth c C
  have hM := hX.M
  obtain ⟨hx, h0, h1a, h2a, h3a, h4a, h5a, h6, h7, hd⟩ := id hX
  have hd06 : ad 0 ≠ ad 6 := hd 0 6 (by decide) (by decide) (by decide)
  have hn5 : (a 5).toNatClampNeg = nb := by rw [h5]; exact nI_clamp (by omega)
  first | refine zz_aload_n C dX2_ofOrder_0 rfl ?_ | refine zz_aload_nN C dX2_ofOrder_0 rfl ?_
  refine zz_iload_n C dX2_ofOrder_1 rfl ?_
  refine zz_callV C zy_X2_isOrder (ct_X2_isOrder hM) rfl q1360 (by first | assumption | exact zz_us | exact zz_lk1 (by assumption) (by assumption) | exact zz_lk3 (hd _ _ (by decide) (by decide) (by decide)) (by assumption) | exact zz_uf (by assumption) (by assumption) | exact zz_lk3 (zz_xi (by assumption) (by assumption)) (zz_lk1 (by assumption) (by assumption)) | exact zz_lk3 (hd _ _ (by decide) (by decide) (by decide)) (zz_lk3 (hd _ _ (by decide) (by decide) (by decide)) (by assumption)) | (simp only [zz_up]; simp_all; done)) rfl rfl rfl rfl rfl rfl dX2_ofOrder_2 ⟨Nat.le_of_ble_eq_true rfl, Nat.le_of_ble_eq_true rfl⟩ (fun v hz hp => ?_)
  obtain ⟨rfl, ez⟩ := hp
  obtain rfl := ez.symm
  first | refine zz_ifb_ne (tgt := 10) C dX2_ofOrder_5 (by decide) (fun c5 => ?_) (fun c5 => ?_) | refine zz_if_ne (tgt := 10) C dX2_ofOrder_5 (by decide) (fun c5 => ?_) (fun c5 => ?_)
  · obtain ⟨o, ho, ev⟩ := qa_ix (n := no) (by omega) (by rw [← h6o]; assumption)
    have eon : v0.toNatClampNeg = o := by rw [ev]; exact nI_clamp (by omega)
    refine zz_iload_n C dX2_ofOrder_10 rfl ?_
    refine zz_iconst (v := 0) C dX2_ofOrder_11 (by decide) ?_
    refine zz_iconst (v := 5) C dX2_ofOrder_12 (by decide) ?_
    refine zz_callS C zy_X2_in (ct_X2_in) rfl q1272 rfl rfl rfl rfl rfl dX2_ofOrder_13 ⟨Nat.le_of_ble_eq_true rfl, Nat.le_of_ble_eq_true rfl⟩ (fun v hz hp => ?_)
    obtain ⟨rfl, ez⟩ := hp
    obtain rfl := ez.symm
    first | refine zz_ifb_eq (tgt := 32) C dX2_ofOrder_16 (by decide) (fun c16 => ?_) (fun c16 => ?_) | refine zz_if_eq (tgt := 32) C dX2_ofOrder_16 (by decide) (fun c16 => ?_) (fun c16 => ?_)
    · refine zz_iload_n C dX2_ofOrder_32 rfl ?_
      refine zz_bipush (v := 6) C dX2_ofOrder_33 (by decide) ?_
      refine zz_icmp_ne (tgt := 46) C dX2_ofOrder_35 (by decide) (fun c35 => ?_) (fun c35 => ?_)
      · refine zz_bipush (v := (-2)) C dX2_ofOrder_46 (by decide) ?_
        refine zz_iret C dX2_ofOrder_48 rfl rfl ?_
        refine ⟨?_, ?_⟩
        · unfold op_ofOrder
          first
          | rw [if_pos c5]
          | rw [if_neg (zz_tf c5), eon, if_pos c16, ekn]
          | rw [if_neg (zz_tf c5), eon, if_neg (show ¬ qa_in v1 0 5 = true from by rw [c16]; decide), if_pos c35, hn5]
          | rw [if_neg (zz_tf c5), eon, if_neg (show ¬ qa_in v1 0 5 = true from by rw [c16]; decide), if_neg c35]
        · first | exact tw_G.same h0 h6 | exact tw_G.of6 h0 hd06 rfl
      · first | refine zz_aload_n C dX2_ofOrder_38 rfl ?_ | refine zz_aload_nN C dX2_ofOrder_38 rfl ?_
        refine zz_iload_n C dX2_ofOrder_39 rfl ?_
        refine zz_callV C zy_X2_couldBeGiven (ct_X2_couldBeGiven nb h5 hnb o ev (by omega) hX) rfl q1476 (by first | assumption | exact zz_us | exact zz_lk1 (by assumption) (by assumption) | exact zz_lk3 (hd _ _ (by decide) (by decide) (by decide)) (by assumption) | exact zz_uf (by assumption) (by assumption) | exact zz_lk3 (zz_xi (by assumption) (by assumption)) (zz_lk1 (by assumption) (by assumption)) | exact zz_lk3 (hd _ _ (by decide) (by decide) (by decide)) (zz_lk3 (hd _ _ (by decide) (by decide) (by decide)) (by assumption)) | (simp only [zz_up]; simp_all; done)) rfl rfl rfl rfl rfl rfl dX2_ofOrder_40 ⟨Nat.le_of_ble_eq_true rfl, Nat.le_of_ble_eq_true rfl⟩ (fun v hz hp => ?_)
        obtain ⟨g, rfl, ez⟩ := hp
        obtain rfl := ez.symm
        refine zz_goto (tgt := 48) C dX2_ofOrder_43 (by decide) ?_
        refine zz_iret C dX2_ofOrder_48 rfl rfl ?_
        refine ⟨?_, ?_⟩
        · unfold op_ofOrder
          first
          | rw [if_pos c5]
          | rw [if_neg (zz_tf c5), eon, if_pos c16, ekn]
          | rw [if_neg (zz_tf c5), eon, if_neg (show ¬ qa_in v1 0 5 = true from by rw [c16]; decide), if_pos c35, hn5]
          | rw [if_neg (zz_tf c5), eon, if_neg (show ¬ qa_in v1 0 5 = true from by rw [c16]; decide), if_neg c35]
        · first | exact tw_G.same h0 h6 | exact tw_G.of6 h0 hd06 rfl
    · obtain ⟨k, hk, ek⟩ := qa_ixk 5 (by omega) c16
      have ekn : v1.toNatClampNeg = k := by rw [ek]; exact nI_clamp (by omega)
      first | refine zz_aload_n C dX2_ofOrder_19 rfl ?_ | refine zz_aload_nN C dX2_ofOrder_19 rfl ?_
      refine zz_get C rfl (by first | assumption | exact zz_us | exact zz_lk1 (by assumption) (by assumption) | exact zz_lk3 (hd _ _ (by decide) (by decide) (by decide)) (by assumption) | exact zz_uf (by assumption) (by assumption) | exact zz_lk3 (zz_xi (by assumption) (by assumption)) (zz_lk1 (by assumption) (by assumption)) | exact zz_lk3 (hd _ _ (by decide) (by decide) (by decide)) (zz_lk3 (hd _ _ (by decide) (by decide) (by decide)) (by assumption)) | (simp only [zz_up]; simp_all; done)) rfl in_X2 0 rfl q1230 (fun _ h => h) (by first | rfl | assumption) dX2_ofOrder_20 ?_
      refine zz_iload_n C dX2_ofOrder_23 rfl ?_
      refine zz_iload_n C dX2_ofOrder_24 rfl ?_
      refine zz_callS C zy_X2_ofOrderAt (ct_X2_ofOrderAt o k ev ek) rfl q1353 rfl rfl rfl rfl rfl dX2_ofOrder_25 ⟨Nat.le_of_ble_eq_true rfl, Nat.le_of_ble_eq_true rfl⟩ (fun v hz hp => ?_)
      obtain ⟨rfl, ez⟩ := hp
      obtain rfl := ez.symm
      refine zz_iald C (by first | assumption | exact zz_us | exact zz_lk1 (by assumption) (by assumption) | exact zz_lk3 (hd _ _ (by decide) (by decide) (by decide)) (by assumption) | exact zz_uf (by assumption) (by assumption) | exact zz_lk3 (zz_xi (by assumption) (by assumption)) (zz_lk1 (by assumption) (by assumption)) | exact zz_lk3 (hd _ _ (by decide) (by decide) (by decide)) (zz_lk3 (hd _ _ (by decide) (by decide) (by decide)) (by assumption)) | (simp only [zz_up]; simp_all; done)) rfl (by omega) (by omega) dX2_ofOrder_28 ?_
      refine zz_goto (tgt := 48) C dX2_ofOrder_29 (by decide) ?_
      refine zz_iret C dX2_ofOrder_48 rfl rfl ?_
      refine ⟨?_, ?_⟩
      · unfold op_ofOrder
        first
        | rw [if_pos c5]
        | rw [if_neg (zz_tf c5), eon, if_pos c16, ekn]
        | rw [if_neg (zz_tf c5), eon, if_neg (show ¬ qa_in v1 0 5 = true from by rw [c16]; decide), if_pos c35, hn5]
        | rw [if_neg (zz_tf c5), eon, if_neg (show ¬ qa_in v1 0 5 = true from by rw [c16]; decide), if_neg c35]
      · first | exact tw_G.same h0 h6 | exact tw_G.of6 h0 hd06 rfl
  · refine zz_iconst (v := (-1)) C dX2_ofOrder_8 (by decide) ?_
    refine zz_iret C dX2_ofOrder_9 rfl rfl ?_
    refine ⟨?_, ?_⟩
    · unfold op_ofOrder
      first
      | rw [if_pos c5]
      | rw [if_neg (zz_tf c5), eon, if_pos c16, ekn]
      | rw [if_neg (zz_tf c5), eon, if_neg (show ¬ qa_in v1 0 5 = true from by rw [c16]; decide), if_pos c35, hn5]
      | rw [if_neg (zz_tf c5), eon, if_neg (show ¬ qa_in v1 0 5 = true from by rw [c16]; decide), if_neg c35]
    · first | exact tw_G.same h0 h6 | exact tw_G.of6 h0 hd06 rfl

