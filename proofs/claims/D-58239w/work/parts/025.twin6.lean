/-! the twin: its record of former states, and the changes that lay one number -/
theorem ct_X2_looks {l : Launch} {D : va_G} {b0 : Nat} {h : zz_H} {x : Nat} {ad : Nat → Nat} {a ah hi : Nat → Int32} {kp : Nat} {sl sv pd : Nat → Int32} {len : Nat} {so : Nat → Int32} {pos wr : Int32} {to : Nat → Int32} (hX : tw_X D h x ad a ah hi kp sl sv pd len so pos wr to) : zz_Ct l D b0 yX2_looks cX2_looks 2 (none) 0 0 0 0 [.ref x] h (fun v h' => ∃ g : Nat → Int32, (v = none ∧ ∀ k, k < 324 → g k = a k) ∧ h' = zz_up h (ad 1) (.inl (D.1 100, 324, .inl g))) := by
  refine zz_Ct.of zy_X2_looks.1 rfl ?_
  intro p e s m below meth c C
  have hM := hX.M
  obtain ⟨hx, h0, h1a, h2a, h3a, h4a, h5a, h6, h7, hd⟩ := id hX
  refine zz_iconst (v := 0) C dX2_looks_0 (by decide) ?_
  refine zz_istore_n C dX2_looks_1 (by decide) ?_
  have L2 : ∀ (n : Nat) (i : Nat) (g : Nat → Int32), i ≤ 324 → 325 ≤ i + n → (∀ k, k < i → g k = a k) → zz_V D b0 2 p l e ({ frames := 0, cells := 0, slots := 0, locals := 0 } : Jvm.Room) s m ([.ref x] : List Value).toArray below meth c (MQ below (zz_Q D b0 (fun v h' => ∃ g : Nat → Int32, (v = none ∧ ∀ k, k < 324 → g k = a k) ∧ h' = zz_up h (ad 1) (.inl (D.1 100, 324, .inl g)))) ([.ref x] : List Value).toArray s 0 0 (fun q => b0 ≤ q)) 0 0 (zz_up h (ad 1) (.inl (D.1 100, 324, .inl g))) [(0, .ref x), (1, .int (nI i))] 2 [] := by
    intro n
    induction n with
    | zero =>
      intro i g h1 h2 hg
      exact absurd h2 (by omega)
    | succ n ih =>
      intro i g h1 h2 hg
      refine zz_iload_n C dX2_looks_2 rfl ?_
      refine zz_sipush (v := 324) C dX2_looks_3 (by decide) ?_
      refine zz_icmp_ge (tgt := 27) C dX2_looks_6 (by decide) (fun c6 => ?_) (fun c6 => ?_)
      · have hi2 : 324 ≤ i := (nI_leI (a := 324) (by omega) (by omega)).mp c6
        obtain rfl : i = 324 := by omega
        refine zz_vret C dX2_looks_27 rfl rfl ?_
        exact ⟨g, ⟨rfl, hg⟩, rfl⟩
      · have hi2 : i < 324 := Nat.not_le.mp (fun q => c6 (nI_le (a := 324) q (by omega)))
        first | refine zz_aload_n C dX2_looks_9 rfl ?_ | refine zz_aload_nN C dX2_looks_9 rfl ?_
        refine zz_get C rfl (by first | assumption | exact zz_us | exact zz_lk1 (by assumption) (by assumption) | exact zz_lk3 (hd _ _ (by decide) (by decide) (by decide)) (by assumption) | exact zz_uf (by assumption) (by assumption) | (simp only [zz_up]; simp_all; done)) rfl in_X2 1 rfl q1231 (fun _ h => h) (by first | rfl | assumption) dX2_looks_10 ?_
        refine zz_iload_n C dX2_looks_13 rfl ?_
        first | refine zz_aload_n C dX2_looks_14 rfl ?_ | refine zz_aload_nN C dX2_looks_14 rfl ?_
        refine zz_get C rfl (by first | assumption | exact zz_us | exact zz_lk1 (by assumption) (by assumption) | exact zz_lk3 (hd _ _ (by decide) (by decide) (by decide)) (by assumption) | exact zz_uf (by assumption) (by assumption) | (simp only [zz_up]; simp_all; done)) rfl in_X2 0 rfl q1230 (fun _ h => h) (by first | rfl | assumption) dX2_looks_15 ?_
        refine zz_iload_n C dX2_looks_18 rfl ?_
        refine zz_iald C (by first | assumption | exact zz_us | exact zz_lk1 (by assumption) (by assumption) | exact zz_lk3 (hd _ _ (by decide) (by decide) (by decide)) (by assumption) | exact zz_uf (by assumption) (by assumption) | (simp only [zz_up]; simp_all; done)) rfl (by omega) (by omega) dX2_looks_19 ?_
        first | refine zz_iast2 C rfl (by omega) (by omega) dX2_looks_20 ?_ | refine zz_iast C (by first | assumption | exact zz_us | exact zz_lk1 (by assumption) (by assumption) | exact zz_lk3 (hd _ _ (by decide) (by decide) (by decide)) (by assumption) | exact zz_uf (by assumption) (by assumption) | (simp only [zz_up]; simp_all; done)) rfl (by omega) (by omega) dX2_looks_20 ?_
        refine zz_iinc C dX2_looks_21 rfl (by first | exact nI_1 _ | exact (rfl : _ + Int32.ofInt 1 = _ + 1)) (by decide) ?_
        refine zz_goto (tgt := 2) C dX2_looks_24 (by decide) ?_
        exact zz_loc2 (ih (i + 1) _ (by omega) (by omega) (fun k hk => by
          by_cases hki : k = i
          · rw [hki, up_s]
          · rw [up_n hki]; exact hg k (by omega))) ⟨rfl, rfl, trivial⟩
  have L0 := L2 325 0 ah (by omega) (by omega) (fun k hk => by omega)
  rw [zz_upsame h1a] at L0
  exact zz_loc2 L0 ⟨rfl, rfl, trivial⟩

theorem ct_X2_records {l : Launch} {D : va_G} {b0 : Nat} {h : zz_H} {x : Nat} {ad : Nat → Nat} {a ah hi : Nat → Int32} {kp : Nat} {sl sv pd : Nat → Int32} {len : Nat} {so : Nat → Int32} {pos wr : Int32} {to : Nat → Int32} (hkp : kp ≤ 6) (hX : tw_X D h x ad a ah hi kp sl sv pd len so pos wr to) : zz_Ct l D b0 yX2_records cX2_records 2 (none) 0 0 0 0 [.ref x] h (fun v h' => ∃ (hi' : Nat → Int32) (kp' : Nat), v = none ∧ tw_X D h' x ad a ah hi' kp' sl sv pd len so pos wr to ∧ tw_F x ad h h' ∧ qa_rec hi kp ah hi' kp') := by
  refine zz_Ct.of zy_X2_records.1 rfl ?_
  intro p e s m below meth c C
  have hM := hX.M
  obtain ⟨hx, h0, h1a, h2a, h3a, h4a, h5a, h6, h7, hd⟩ := id hX
  have J50 : ∀ (hz : zz_H) (g : Nat → Int32) (k1 : Nat), k1 < 6 → tw_X D hz x ad a ah g k1 sl sv pd len so pos wr to → tw_F x ad h hz → (∀ (hi' : Nat → Int32), (∀ j, j < 324 * k1 → hi' j = g j) → (∀ k, k < 324 → hi' (324 * k1 + k) = ah k) → qa_rec hi kp ah hi' (k1 + 1)) → zz_V D b0 2 p l e ({ frames := 0, cells := 0, slots := 0, locals := 0 } : Jvm.Room) s m ([.ref x] : List Value).toArray below meth c (MQ below (zz_Q D b0 (fun v h' => ∃ (hi' : Nat → Int32) (kp' : Nat), v = none ∧ tw_X D h' x ad a ah hi' kp' sl sv pd len so pos wr to ∧ tw_F x ad h h' ∧ qa_rec hi kp ah hi' kp')) ([.ref x] : List Value).toArray s 0 0 (fun q => b0 ≤ q)) 0 0 hz [(0, .ref x)] 50 [] := by
    intro hz g k1 hk1 hX1 hF1 hR
    clear hx h0 h1a h2a h3a h4a h5a h6 h7
    obtain ⟨hx, h0, h1a, h2a, h3a, h4a, h5a, h6, h7, hd⟩ := id hX1
    refine zz_iconst (v := 0) C dX2_records_50 (by decide) ?_
    refine zz_istore_n C dX2_records_51 (by decide) ?_
    have L52 : ∀ (n : Nat) (i : Nat) (g2 : Nat → Int32), i ≤ 324 → 325 ≤ i + n → (∀ j, j < 324 * k1 → g2 j = g j) → (∀ k, k < i → g2 (324 * k1 + k) = ah k) → zz_V D b0 2 p l e ({ frames := 0, cells := 0, slots := 0, locals := 0 } : Jvm.Room) s m ([.ref x] : List Value).toArray below meth c (MQ below (zz_Q D b0 (fun v h' => ∃ (hi' : Nat → Int32) (kp' : Nat), v = none ∧ tw_X D h' x ad a ah hi' kp' sl sv pd len so pos wr to ∧ tw_F x ad h h' ∧ qa_rec hi kp ah hi' kp')) ([.ref x] : List Value).toArray s 0 0 (fun q => b0 ≤ q)) 0 0 (zz_up hz (ad 2) (.inl (D.1 100, 1944, .inl g2))) [(0, .ref x), (1, .int (nI i))] 52 [] := by
      intro n
      induction n with
      | zero =>
        intro i g2 h1 h2 hg hg2
        exact absurd h2 (by omega)
      | succ n ih =>
        intro i g2 h1 h2 hg hg2
        refine zz_iload_n C dX2_records_52 rfl ?_
        refine zz_sipush (v := 324) C dX2_records_53 (by decide) ?_
        refine zz_icmp_ge (tgt := 86) C dX2_records_56 (by decide) (fun c56 => ?_) (fun c56 => ?_)
        · have hi2 : 324 ≤ i := (nI_leI (a := 324) (by omega) (by omega)).mp c56
          obtain rfl : i = 324 := by omega
          first | refine zz_aload_n C dX2_records_86 rfl ?_ | refine zz_aload_nN C dX2_records_86 rfl ?_
          refine zz_dup C dX2_records_87 rfl ?_
          refine zz_get C rfl (by first | assumption | exact zz_us | exact zz_lk1 (by assumption) (by assumption) | exact zz_lk3 (hd _ _ (by decide) (by decide) (by decide)) (by assumption) | exact zz_uf (by assumption) (by assumption) | (simp only [zz_up]; simp_all; done)) rfl in_X2 3 rfl q1233 (fun _ h => h) (by first | rfl | assumption) dX2_records_88 ?_
          refine zz_iconst (v := 1) C dX2_records_91 (by decide) ?_
          refine zz_iadd C dX2_records_92 ?_
          refine zz_put C rfl (by first | assumption | exact zz_us | exact zz_lk1 (by assumption) (by assumption) | exact zz_lk3 (hd _ _ (by decide) (by decide) (by decide)) (by assumption) | exact zz_uf (by assumption) (by assumption) | (simp only [zz_up]; simp_all; done)) rfl in_X2 tyX2 tyX2_ok nmX2 3 rfl q1233 (fun _ h => h) rfl (tyX2_ok 3 (by decide)) (by first | rfl | exact zz_narZ (by first | exact zz_b01 _ | assumption | decide)) rfl (Nat.le_of_ble_eq_true rfl) dX2_records_93 ?_
          refine zz_vret C dX2_records_96 rfl rfl ?_
          refine ⟨g2, k1 + 1, rfl, ?_, hF1.tr ((tw_F.up 2 (by decide)).tr tw_F.ux), hR g2 hg hg2⟩
          have hX3 := (hX1.u2 g2).fx (k1 + 1) len pos wr
          rw [← nI_1] at hX3
          exact hX3
        · have hi2 : i < 324 := Nat.not_le.mp (fun q => c56 (nI_le (a := 324) q (by omega)))
          first | refine zz_aload_n C dX2_records_59 rfl ?_ | refine zz_aload_nN C dX2_records_59 rfl ?_
          refine zz_get C rfl (by first | assumption | exact zz_us | exact zz_lk1 (by assumption) (by assumption) | exact zz_lk3 (hd _ _ (by decide) (by decide) (by decide)) (by assumption) | exact zz_uf (by assumption) (by assumption) | (simp only [zz_up]; simp_all; done)) rfl in_X2 2 rfl q1232 (fun _ h => h) (by first | rfl | assumption) dX2_records_60 ?_
          refine zz_sipush (v := 324) C dX2_records_63 (by decide) ?_
          first | refine zz_aload_n C dX2_records_66 rfl ?_ | refine zz_aload_nN C dX2_records_66 rfl ?_
          refine zz_get C rfl (by first | assumption | exact zz_us | exact zz_lk1 (by assumption) (by assumption) | exact zz_lk3 (hd _ _ (by decide) (by decide) (by decide)) (by assumption) | exact zz_uf (by assumption) (by assumption) | (simp only [zz_up]; simp_all; done)) rfl in_X2 3 rfl q1233 (fun _ h => h) (by first | rfl | assumption) dX2_records_67 ?_
          refine zz_imul C dX2_records_70 ?_
          refine zz_iload_n C dX2_records_71 rfl ?_
          refine zz_iadd C dX2_records_72 ?_
          first | refine zz_aload_n C dX2_records_73 rfl ?_ | refine zz_aload_nN C dX2_records_73 rfl ?_
          refine zz_get C rfl (by first | assumption | exact zz_us | exact zz_lk1 (by assumption) (by assumption) | exact zz_lk3 (hd _ _ (by decide) (by decide) (by decide)) (by assumption) | exact zz_uf (by assumption) (by assumption) | (simp only [zz_up]; simp_all; done)) rfl in_X2 1 rfl q1231 (fun _ h => h) (by first | rfl | assumption) dX2_records_74 ?_
          refine zz_iload_n C dX2_records_77 rfl ?_
          refine zz_iald C (by first | assumption | exact zz_us | exact zz_lk1 (by assumption) (by assumption) | exact zz_lk3 (hd _ _ (by decide) (by decide) (by decide)) (by assumption) | exact zz_uf (by assumption) (by assumption) | (simp only [zz_up]; simp_all; done)) rfl (by omega) (by omega) dX2_records_78 ?_
          first | refine zz_iast2 C (zz_ixm 324 k1 i) (by omega) (by omega) dX2_records_79 ?_ | refine zz_iast C (by first | assumption | exact zz_us | exact zz_lk1 (by assumption) (by assumption) | exact zz_lk3 (hd _ _ (by decide) (by decide) (by decide)) (by assumption) | exact zz_uf (by assumption) (by assumption) | (simp only [zz_up]; simp_all; done)) (zz_ixm 324 k1 i) (by omega) (by omega) dX2_records_79 ?_
          refine zz_iinc C dX2_records_80 rfl (by first | exact nI_1 _ | exact (rfl : _ + Int32.ofInt 1 = _ + 1)) (by decide) ?_
          refine zz_goto (tgt := 52) C dX2_records_83 (by decide) ?_
          exact zz_loc2 (ih (i + 1) _ (by omega) (by omega) (fun j hj => by rw [up_n (by omega)]; exact hg j hj) (fun k hk => by
            by_cases hki : k = i
            · rw [hki, up_s]
            · rw [up_n (by omega)]; exact hg2 k (by omega))) ⟨rfl, rfl, trivial⟩
    have L0 := L52 325 0 g (by omega) (by omega) (fun _ _ => rfl) (fun k hk => by omega)
    rw [zz_upsame h2a] at L0
    exact zz_loc2 L0 ⟨rfl, rfl, trivial⟩
  first | refine zz_aload_n C dX2_records_0 rfl ?_ | refine zz_aload_nN C dX2_records_0 rfl ?_
  refine zz_get C rfl (by first | assumption | exact zz_us | exact zz_lk1 (by assumption) (by assumption) | exact zz_lk3 (hd _ _ (by decide) (by decide) (by decide)) (by assumption) | exact zz_uf (by assumption) (by assumption) | (simp only [zz_up]; simp_all; done)) rfl in_X2 3 rfl q1233 (fun _ h => h) (by first | rfl | assumption) dX2_records_1 ?_
  refine zz_bipush (v := 6) C dX2_records_4 (by decide) ?_
  refine zz_icmp_ne (tgt := 50) C dX2_records_6 (by decide) (fun c6 => ?_) (fun c6 => ?_)
  · first
    | (refine zz_loc2 (J50 _ hi kp (by have h66 : kp ≠ 6 := (fun q => c6 (by rw [q]; rfl)); omega) hX tw_F.rf (fun hi1 q1 q2 => Or.inr ⟨by have h66 : kp ≠ 6 := (fun q => c6 (by rw [q]; rfl)); omega, rfl, q1, q2⟩)) ⟨rfl, trivial⟩)
    | (refine zz_loc2 (J50 _ g 5 (by omega) ((hX.u2 g).fx 5 len pos wr) ((tw_F.up 2 (by decide)).tr tw_F.ux) (fun hi1 q1 q2 => Or.inl ⟨ek6, rfl, fun j hj => (q1 j (by omega)).trans (hg j (by omega)), q2⟩)) ⟨rfl, trivial⟩)
  · have ek6 : kp = 6 := (nI_eq (a := kp) (b := 6) (by omega) (by omega)).mp c6
    refine zz_iconst (v := 0) C dX2_records_9 (by decide) ?_
    refine zz_istore_n C dX2_records_10 (by decide) ?_
    have L11 : ∀ (n : Nat) (i : Nat) (g : Nat → Int32), i ≤ 1620 → 1621 ≤ i + n → (∀ j, j < i → g j = hi (j + 324)) → (∀ j, i ≤ j → g j = hi j) → zz_V D b0 2 p l e ({ frames := 0, cells := 0, slots := 0, locals := 0 } : Jvm.Room) s m ([.ref x] : List Value).toArray below meth c (MQ below (zz_Q D b0 (fun v h' => ∃ (hi' : Nat → Int32) (kp' : Nat), v = none ∧ tw_X D h' x ad a ah hi' kp' sl sv pd len so pos wr to ∧ tw_F x ad h h' ∧ qa_rec hi kp ah hi' kp')) ([.ref x] : List Value).toArray s 0 0 (fun q => b0 ≤ q)) 0 0 (zz_up h (ad 2) (.inl (D.1 100, 1944, .inl g))) [(0, .ref x), (1, .int (nI i))] 11 [] := by
      intro n
      induction n with
      | zero =>
        intro i g h1 h2 hg hg2
        exact absurd h2 (by omega)
      | succ n ih =>
        intro i g h1 h2 hg hg2
        refine zz_iload_n C dX2_records_11 rfl ?_
        refine zz_sipush (v := 1620) C dX2_records_12 (by decide) ?_
        refine zz_icmp_ge (tgt := 40) C dX2_records_15 (by decide) (fun c15 => ?_) (fun c15 => ?_)
        · have hi2 : 1620 ≤ i := (nI_leI (a := 1620) (by omega) (by omega)).mp c15
          obtain rfl : i = 1620 := by omega
          first | refine zz_aload_n C dX2_records_40 rfl ?_ | refine zz_aload_nN C dX2_records_40 rfl ?_
          refine zz_dup C dX2_records_41 rfl ?_
          refine zz_get C rfl (by first | assumption | exact zz_us | exact zz_lk1 (by assumption) (by assumption) | exact zz_lk3 (hd _ _ (by decide) (by decide) (by decide)) (by assumption) | exact zz_uf (by assumption) (by assumption) | (simp only [zz_up]; simp_all; done)) rfl in_X2 3 rfl q1233 (fun _ h => h) (by first | rfl | assumption) dX2_records_42 ?_
          refine zz_iconst (v := 1) C dX2_records_45 (by decide) ?_
          refine zz_isub C dX2_records_46 ?_
          rw [show nI kp - 1 = nI 5 from by rw [ek6]; rfl]
          refine zz_put C rfl (by first | assumption | exact zz_us | exact zz_lk1 (by assumption) (by assumption) | exact zz_lk3 (hd _ _ (by decide) (by decide) (by decide)) (by assumption) | exact zz_uf (by assumption) (by assumption) | (simp only [zz_up]; simp_all; done)) rfl in_X2 tyX2 tyX2_ok nmX2 3 rfl q1233 (fun _ h => h) rfl (tyX2_ok 3 (by decide)) (by first | rfl | exact zz_narZ (by first | exact zz_b01 _ | assumption | decide)) rfl (Nat.le_of_ble_eq_true rfl) dX2_records_47 ?_
          first
          | (refine zz_loc2 (J50 _ hi kp (by have h66 : kp ≠ 6 := (fun q => c6 (by rw [q]; rfl)); omega) hX tw_F.rf (fun hi1 q1 q2 => Or.inr ⟨by have h66 : kp ≠ 6 := (fun q => c6 (by rw [q]; rfl)); omega, rfl, q1, q2⟩)) ⟨rfl, trivial⟩)
          | (refine zz_loc2 (J50 _ g 5 (by omega) ((hX.u2 g).fx 5 len pos wr) ((tw_F.up 2 (by decide)).tr tw_F.ux) (fun hi1 q1 q2 => Or.inl ⟨ek6, rfl, fun j hj => (q1 j (by omega)).trans (hg j (by omega)), q2⟩)) ⟨rfl, trivial⟩)
        · have hi2 : i < 1620 := Nat.not_le.mp (fun q => c15 (nI_le (a := 1620) q (by omega)))
          first | refine zz_aload_n C dX2_records_18 rfl ?_ | refine zz_aload_nN C dX2_records_18 rfl ?_
          refine zz_get C rfl (by first | assumption | exact zz_us | exact zz_lk1 (by assumption) (by assumption) | exact zz_lk3 (hd _ _ (by decide) (by decide) (by decide)) (by assumption) | exact zz_uf (by assumption) (by assumption) | (simp only [zz_up]; simp_all; done)) rfl in_X2 2 rfl q1232 (fun _ h => h) (by first | rfl | assumption) dX2_records_19 ?_
          refine zz_iload_n C dX2_records_22 rfl ?_
          first | refine zz_aload_n C dX2_records_23 rfl ?_ | refine zz_aload_nN C dX2_records_23 rfl ?_
          refine zz_get C rfl (by first | assumption | exact zz_us | exact zz_lk1 (by assumption) (by assumption) | exact zz_lk3 (hd _ _ (by decide) (by decide) (by decide)) (by assumption) | exact zz_uf (by assumption) (by assumption) | (simp only [zz_up]; simp_all; done)) rfl in_X2 2 rfl q1232 (fun _ h => h) (by first | rfl | assumption) dX2_records_24 ?_
          refine zz_iload_n C dX2_records_27 rfl ?_
          refine zz_sipush (v := 324) C dX2_records_28 (by decide) ?_
          refine zz_iadd C dX2_records_31 ?_
          refine zz_iald C (by first | assumption | exact zz_us | exact zz_lk1 (by assumption) (by assumption) | exact zz_lk3 (hd _ _ (by decide) (by decide) (by decide)) (by assumption) | exact zz_uf (by assumption) (by assumption) | (simp only [zz_up]; simp_all; done)) (nI_add i 324) (by omega) (by omega) dX2_records_32 ?_
          first | refine zz_iast2 C rfl (by omega) (by omega) dX2_records_33 ?_ | refine zz_iast C (by first | assumption | exact zz_us | exact zz_lk1 (by assumption) (by assumption) | exact zz_lk3 (hd _ _ (by decide) (by decide) (by decide)) (by assumption) | exact zz_uf (by assumption) (by assumption) | (simp only [zz_up]; simp_all; done)) rfl (by omega) (by omega) dX2_records_33 ?_
          refine zz_iinc C dX2_records_34 rfl (by first | exact nI_1 _ | exact (rfl : _ + Int32.ofInt 1 = _ + 1)) (by decide) ?_
          refine zz_goto (tgt := 11) C dX2_records_37 (by decide) ?_
          exact zz_loc2 (ih (i + 1) _ (by omega) (by omega) (fun j hj => by
            by_cases hji : j = i
            · rw [hji, up_s]; exact hg2 _ (by omega)
            · rw [up_n hji]; exact hg j (by omega)) (fun j hj => by rw [up_n (by omega)]; exact hg2 j (by omega))) ⟨rfl, rfl, trivial⟩
    have L0 := L11 1621 0 hi (by omega) (by omega) (fun k hk => by omega) (fun _ _ => rfl)
    rw [zz_upsame h2a] at L0
    exact zz_loc2 L0 ⟨rfl, rfl, trivial⟩

theorem ct_X2_lays {l : Launch} {D : va_G} {b0 : Nat} {h : zz_H} {x : Nat} {ad : Nat → Nat} {a ah hi : Nat → Int32} {kp : Nat} {sl sv pd : Nat → Int32} {len : Nat} {so : Nat → Int32} {pos wr : Int32} {to : Nat → Int32} (hkp : kp ≤ 6) {v0 v1 : Int32} (i : Nat) (hv0 : v0 = nI i) (hi3 : i < 324) (hX : tw_X D h x ad a ah hi kp sl sv pd len so pos wr to) : zz_Ct l D b0 yX2_lays cX2_lays 4 (some .int) 1 21 0 0 [.ref x, .int v0, .int v1] h (fun v h' => ∃ (ah' hi' : Nat → Int32) (kp' : Nat), v = some (.int (a i)) ∧ tw_X D h' x ad (upd a i v1) ah' hi' kp' sl sv pd len so pos wr to ∧ tw_F x ad h h' ∧ qa_rec hi kp a hi' kp') := by
  refine zz_Ct.of zy_X2_lays.1 rfl ?_
  intro p e s m below meth c C
  subst hv0
  have hM := hX.M
  obtain ⟨hx, h0, h1a, h2a, h3a, h4a, h5a, h6, h7, hd⟩ := id hX
  first | refine zz_aload_n C dX2_lays_0 rfl ?_ | refine zz_aload_nN C dX2_lays_0 rfl ?_
  refine zz_callV C zy_X2_looks (ct_X2_looks hX) rfl q1279 (by first | assumption | exact zz_us | exact zz_lk1 (by assumption) (by assumption) | exact zz_lk3 (hd _ _ (by decide) (by decide) (by decide)) (by assumption) | exact zz_uf (by assumption) (by assumption) | (simp only [zz_up]; simp_all; done)) rfl rfl rfl rfl rfl rfl dX2_lays_1 ⟨Nat.le_of_ble_eq_true rfl, Nat.le_of_ble_eq_true rfl⟩ (fun v hz hp => ?_)
  obtain ⟨g, ⟨rfl, hg⟩, ez⟩ := hp
  have hX1 := hX.u1 g
  have hF1 : tw_F x ad h _ := tw_F.up (h := h) (e := .inl (D.1 100, 324, .inl g)) 1 (by decide)
  rw [← ez] at hX1 hF1
  have hx1 := hX1.1
  first | refine zz_aload_n C dX2_lays_4 rfl ?_ | refine zz_aload_nN C dX2_lays_4 rfl ?_
  refine zz_callV C zy_X2_records (ct_X2_records hkp hX1) rfl q1283 hx1 rfl rfl rfl rfl rfl rfl dX2_lays_5 ⟨Nat.le_of_ble_eq_true rfl, Nat.le_of_ble_eq_true rfl⟩ (fun v hz hp => ?_)
  obtain ⟨hi', kp', rfl, hX2, hF2, hR2⟩ := hp
  clear hx h0 h1a h2a h3a h4a h5a h6 h7 hx1
  obtain ⟨hx, h0, h1a, h2a, h3a, h4a, h5a, h6, h7, -⟩ := id hX2
  first | refine zz_aload_n C dX2_lays_8 rfl ?_ | refine zz_aload_nN C dX2_lays_8 rfl ?_
  refine zz_get C rfl (by first | assumption | exact zz_us | exact zz_lk1 (by assumption) (by assumption) | exact zz_lk3 (hd _ _ (by decide) (by decide) (by decide)) (by assumption) | exact zz_uf (by assumption) (by assumption) | (simp only [zz_up]; simp_all; done)) rfl in_X2 0 rfl q1230 (fun _ h => h) (by first | rfl | assumption) dX2_lays_9 ?_
  refine zz_iload_n C dX2_lays_12 rfl ?_
  refine zz_iald C (by first | assumption | exact zz_us | exact zz_lk1 (by assumption) (by assumption) | exact zz_lk3 (hd _ _ (by decide) (by decide) (by decide)) (by assumption) | exact zz_uf (by assumption) (by assumption) | (simp only [zz_up]; simp_all; done)) rfl (by omega) (by omega) dX2_lays_13 ?_
  refine zz_istore_n C dX2_lays_14 (by decide) ?_
  first | refine zz_aload_n C dX2_lays_15 rfl ?_ | refine zz_aload_nN C dX2_lays_15 rfl ?_
  refine zz_get C rfl (by first | assumption | exact zz_us | exact zz_lk1 (by assumption) (by assumption) | exact zz_lk3 (hd _ _ (by decide) (by decide) (by decide)) (by assumption) | exact zz_uf (by assumption) (by assumption) | (simp only [zz_up]; simp_all; done)) rfl in_X2 0 rfl q1230 (fun _ h => h) (by first | rfl | assumption) dX2_lays_16 ?_
  refine zz_iload_n C dX2_lays_19 rfl ?_
  refine zz_iload_n C dX2_lays_20 rfl ?_
  first | refine zz_iast2 C rfl (by omega) (by omega) dX2_lays_21 ?_ | refine zz_iast C (by first | assumption | exact zz_us | exact zz_lk1 (by assumption) (by assumption) | exact zz_lk3 (hd _ _ (by decide) (by decide) (by decide)) (by assumption) | exact zz_uf (by assumption) (by assumption) | (simp only [zz_up]; simp_all; done)) rfl (by omega) (by omega) dX2_lays_21 ?_
  refine zz_iload_n C dX2_lays_22 rfl ?_
  refine zz_iret C dX2_lays_23 rfl rfl ?_
  exact ⟨g, hi', kp', rfl, hX2.u0 _, hF1.tr (hF2.tr (tw_F.up 0 (by decide))), hR2.of hg⟩

