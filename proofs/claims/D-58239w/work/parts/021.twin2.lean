/-! the twin: readers, and what writes its row of three -/
theorem ct_X2_blockAt {l : Launch} {D : va_G} {b0 : Nat} {h : zz_H} {x s0 : Nat} {a : Nat → Int32} {v0 v1 : Int32} (nb : Nat) (h5 : a 5 = nI nb) (hnb : nb ≤ 24) (hM : tw_M D h x s0 a) : zz_Ct l D b0 yX2_blockAt cX2_blockAt 5 (some .int) 1 21 0 0 [.ref x, .int v0, .int v1] h (fun v h' => v = some (.int (qa_find a (5 * v0 + v1) nb)) ∧ h' = h) := by
  refine zz_Ct.of zy_X2_blockAt.1 rfl ?_
  intro p e s m below meth c C
  have hM0 := hM
  obtain ⟨fs, hx, hf0, hs⟩ := hM0
  refine zz_bipush (v := (-6)) C dX2_blockAt_0 (by decide) ?_
  refine zz_istore_n C dX2_blockAt_2 (by decide) ?_
  refine zz_iconst (v := 0) C dX2_blockAt_3 (by decide) ?_
  refine zz_istore C dX2_blockAt_4 (by decide) ?_
  have L6 : ∀ (n : Nat) (i : Nat), i ≤ nb → nb + 1 ≤ i + n → zz_V D b0 5 p l e ({ frames := 1, cells := 0, slots := 0, locals := 21 } : Jvm.Room) s m ([.ref x, .int v0, .int v1] : List Value).toArray below meth c (MQ below (zz_Q D b0 (fun v h' => v = some (.int (qa_find a (5 * v0 + v1) nb)) ∧ h' = h)) ([.ref x, .int v0, .int v1] : List Value).toArray s 0 0 (fun q => b0 ≤ q)) 0 0 h [(0, .ref x), (1, .int v0), (2, .int v1), (3, .int (qa_find a (5 * v0 + v1) i)), (4, .int (nI i))] 6 [] := by
    intro n
    induction n with
    | zero =>
      intro i h1 h2
      exact absurd h2 (by omega)
    | succ n ih =>
      intro i h1 h2
      refine zz_iload C dX2_blockAt_6 rfl ?_
      first | refine zz_aload_n C dX2_blockAt_8 rfl ?_ | refine zz_aload_nN C dX2_blockAt_8 rfl ?_
      refine zz_get C rfl (by first | assumption | exact zz_us | exact zz_lk1 (by assumption) (by assumption) | exact zz_lk3 (hd _ _ (by decide) (by decide) (by decide)) (by assumption) | exact zz_uf (by assumption) (by assumption) | (simp only [zz_up]; simp_all; done)) rfl in_X2 0 rfl q1230 (fun _ h => h) (by first | rfl | assumption) dX2_blockAt_9 ?_
      refine zz_iconst (v := nI 5) C dX2_blockAt_12 (by decide) ?_
      refine zz_iald C (by first | assumption | exact zz_us | exact zz_lk1 (by assumption) (by assumption) | exact zz_lk3 (hd _ _ (by decide) (by decide) (by decide)) (by assumption) | exact zz_uf (by assumption) (by assumption) | (simp only [zz_up]; simp_all; done)) rfl (by omega) (by omega) dX2_blockAt_13 ?_
      refine zz_icmp_ge (tgt := 50) C dX2_blockAt_14 (by decide) (fun c14 => ?_) (fun c14 => ?_)
      · have hi2 : nb ≤ i := (nI_leI (by omega) (by omega)).mp (by rw [← h5]; exact c14)
        obtain rfl : i = nb := by omega
        refine zz_iload_n C dX2_blockAt_50 rfl ?_
        refine zz_iret C dX2_blockAt_51 rfl rfl ?_
        exact ⟨rfl, rfl⟩
      · have hi2 : i < nb := Nat.not_le.mp (fun q => c14 (by rw [h5]; exact nI_le q (by omega)))
        first | refine zz_aload_n C dX2_blockAt_17 rfl ?_ | refine zz_aload_nN C dX2_blockAt_17 rfl ?_
        refine zz_get C rfl (by first | assumption | exact zz_us | exact zz_lk1 (by assumption) (by assumption) | exact zz_lk3 (hd _ _ (by decide) (by decide) (by decide)) (by assumption) | exact zz_uf (by assumption) (by assumption) | (simp only [zz_up]; simp_all; done)) rfl in_X2 0 rfl q1230 (fun _ h => h) (by first | rfl | assumption) dX2_blockAt_18 ?_
        refine zz_iload C dX2_blockAt_21 rfl ?_
        refine zz_bipush (v := nI 8) C dX2_blockAt_23 (by decide) ?_
        refine zz_callS C zy_X2_at (ct_X2_at i 8 rfl rfl) rfl q1310 rfl rfl rfl rfl rfl dX2_blockAt_25 ⟨Nat.le_of_ble_eq_true rfl, Nat.le_of_ble_eq_true rfl⟩ (fun v hz hp => ?_)
        obtain ⟨rfl, ez⟩ := hp
        obtain rfl := ez.symm
        refine zz_iald C (by first | assumption | exact zz_us | exact zz_lk1 (by assumption) (by assumption) | exact zz_lk3 (hd _ _ (by decide) (by decide) (by decide)) (by assumption) | exact zz_uf (by assumption) (by assumption) | (simp only [zz_up]; simp_all; done)) rfl (by omega) (by omega) dX2_blockAt_28 ?_
        refine zz_iconst (v := 5) C dX2_blockAt_29 (by decide) ?_
        refine zz_iload_n C dX2_blockAt_30 rfl ?_
        refine zz_imul C dX2_blockAt_31 ?_
        refine zz_iload_n C dX2_blockAt_32 rfl ?_
        refine zz_iadd C dX2_blockAt_33 ?_
        refine zz_icmp_ne (tgt := 42) C dX2_blockAt_34 (by decide) (fun c34 => ?_) (fun c34 => ?_)
        · refine zz_iload_n C dX2_blockAt_42 rfl ?_
          refine zz_istore_n C dX2_blockAt_43 (by decide) ?_
          refine zz_iinc C dX2_blockAt_44 rfl (by first | exact nI_1 _ | exact (rfl : _ + Int32.ofInt 1 = _ + 1)) (by decide) ?_
          refine zz_goto (tgt := 6) C dX2_blockAt_47 (by decide) ?_
          refine zz_loc2 (ih (i + 1) (by omega) (by omega)) ⟨rfl, rfl, rfl, ?_, rfl, trivial⟩
          clear ih
          show some _ = some _
          first | rfl | (simp_all [qa_find, zz_b, -Int32.not_le, -Int32.not_lt]; done)
        · refine zz_iload C dX2_blockAt_37 rfl ?_
          refine zz_goto (tgt := 43) C dX2_blockAt_39 (by decide) ?_
          refine zz_istore_n C dX2_blockAt_43 (by decide) ?_
          refine zz_iinc C dX2_blockAt_44 rfl (by first | exact nI_1 _ | exact (rfl : _ + Int32.ofInt 1 = _ + 1)) (by decide) ?_
          refine zz_goto (tgt := 6) C dX2_blockAt_47 (by decide) ?_
          refine zz_loc2 (ih (i + 1) (by omega) (by omega)) ⟨rfl, rfl, rfl, ?_, rfl, trivial⟩
          clear ih
          show some _ = some _
          first | rfl | (simp_all [qa_find, zz_b, -Int32.not_le, -Int32.not_lt]; done)
  exact zz_loc2 (L6 (nb + 1) 0 (by omega) (by omega)) ⟨rfl, rfl, rfl, rfl, rfl, trivial⟩

theorem ct_X2_loadOf {l : Launch} {D : va_G} {b0 : Nat} {h : zz_H} {x s0 : Nat} {a : Nat → Int32} {v0 : Int32} (nb : Nat) (h5 : a 5 = nI nb) (hnb : nb ≤ 24) (hM : tw_M D h x s0 a) : zz_Ct l D b0 yX2_loadOf cX2_loadOf 4 (some .int) 2 45 0 0 [.ref x, .int v0] h (fun v h' => v = some (.int (qa_load a nb v0 5)) ∧ h' = h) := by
  refine zz_Ct.of zy_X2_loadOf.1 rfl ?_
  intro p e s m below meth c C
  have hM0 := hM
  obtain ⟨fs, hx, hf0, hs⟩ := hM0
  refine zz_iconst (v := 0) C dX2_loadOf_0 (by decide) ?_
  refine zz_istore_n C dX2_loadOf_1 (by decide) ?_
  refine zz_iconst (v := 0) C dX2_loadOf_2 (by decide) ?_
  refine zz_istore_n C dX2_loadOf_3 (by decide) ?_
  have L4 : ∀ (n : Nat) (i : Nat), i ≤ 5 → 6 ≤ i + n → zz_V D b0 4 p l e ({ frames := 2, cells := 0, slots := 0, locals := 45 } : Jvm.Room) s m ([.ref x, .int v0] : List Value).toArray below meth c (MQ below (zz_Q D b0 (fun v h' => v = some (.int (qa_load a nb v0 5)) ∧ h' = h)) ([.ref x, .int v0] : List Value).toArray s 0 0 (fun q => b0 ≤ q)) 0 0 h [(0, .ref x), (1, .int v0), (2, .int (qa_load a nb v0 i)), (3, .int (nI i))] 4 [] := by
    intro n
    induction n with
    | zero =>
      intro i h1 h2
      exact absurd h2 (by omega)
    | succ n ih =>
      intro i h1 h2
      refine zz_iload_n C dX2_loadOf_4 rfl ?_
      refine zz_iconst (v := 5) C dX2_loadOf_5 (by decide) ?_
      refine zz_icmp_ge (tgt := 43) C dX2_loadOf_6 (by decide) (fun c6 => ?_) (fun c6 => ?_)
      · have hi2 : 5 ≤ i := (nI_leI (a := 5) (by omega) (by omega)).mp c6
        obtain rfl : i = 5 := by omega
        refine zz_iload_n C dX2_loadOf_43 rfl ?_
        refine zz_iret C dX2_loadOf_44 rfl rfl ?_
        exact ⟨rfl, rfl⟩
      · have hi2 : i < 5 := Nat.not_le.mp (fun q => c6 (nI_le (a := 5) q (by omega)))
        refine zz_iload_n C dX2_loadOf_9 rfl ?_
        first | refine zz_aload_n C dX2_loadOf_10 rfl ?_ | refine zz_aload_nN C dX2_loadOf_10 rfl ?_
        refine zz_iload_n C dX2_loadOf_11 rfl ?_
        refine zz_iload_n C dX2_loadOf_12 rfl ?_
        refine zz_callV C zy_X2_blockAt (ct_X2_blockAt nb h5 hnb hM) rfl q1383 (by first | assumption | exact zz_us | exact zz_lk1 (by assumption) (by assumption) | exact zz_lk3 (hd _ _ (by decide) (by decide) (by decide)) (by assumption) | exact zz_uf (by assumption) (by assumption) | (simp only [zz_up]; simp_all; done)) rfl rfl rfl rfl rfl rfl dX2_loadOf_13 ⟨Nat.le_of_ble_eq_true rfl, Nat.le_of_ble_eq_true rfl⟩ (fun v hz hp => ?_)
        obtain ⟨rfl, ez⟩ := hp
        obtain rfl := ez.symm
        refine zz_bipush (v := (-6)) C dX2_loadOf_16 (by decide) ?_
        refine zz_icmp_ne (tgt := 25) C dX2_loadOf_18 (by decide) (fun c18 => ?_) (fun c18 => ?_)
        · obtain ⟨bk, hbk, ebk, spk⟩ := qa_find_i c18
          have ec : (nI bk).toNatClampNeg = bk := nI_clamp (by omega)
          first | refine zz_aload_n C dX2_loadOf_25 rfl ?_ | refine zz_aload_nN C dX2_loadOf_25 rfl ?_
          first | refine zz_aload_n C dX2_loadOf_26 rfl ?_ | refine zz_aload_nN C dX2_loadOf_26 rfl ?_
          refine zz_iload_n C dX2_loadOf_27 rfl ?_
          refine zz_iload_n C dX2_loadOf_28 rfl ?_
          refine zz_callV C zy_X2_blockAt (ct_X2_blockAt nb h5 hnb hM) rfl q1383 (by first | assumption | exact zz_us | exact zz_lk1 (by assumption) (by assumption) | exact zz_lk3 (hd _ _ (by decide) (by decide) (by decide)) (by assumption) | exact zz_uf (by assumption) (by assumption) | (simp only [zz_up]; simp_all; done)) rfl rfl rfl rfl rfl rfl dX2_loadOf_29 ⟨Nat.le_of_ble_eq_true rfl, Nat.le_of_ble_eq_true rfl⟩ (fun v hz hp => ?_)
          obtain ⟨rfl, ez⟩ := hp
          obtain rfl := ez.symm
          refine zz_callV C zy_X2_weight (ct_X2_weight bk ebk (by omega) hM) rfl q1313 (by first | assumption | exact zz_us | exact zz_lk1 (by assumption) (by assumption) | exact zz_lk3 (hd _ _ (by decide) (by decide) (by decide)) (by assumption) | exact zz_uf (by assumption) (by assumption) | (simp only [zz_up]; simp_all; done)) rfl rfl rfl rfl rfl rfl dX2_loadOf_32 ⟨Nat.le_of_ble_eq_true rfl, Nat.le_of_ble_eq_true rfl⟩ (fun v hz hp => ?_)
          obtain ⟨rfl, ez⟩ := hp
          obtain rfl := ez.symm
          refine zz_iadd C dX2_loadOf_35 ?_
          refine zz_istore_n C dX2_loadOf_36 (by decide) ?_
          refine zz_iinc C dX2_loadOf_37 rfl (by first | exact nI_1 _ | exact (rfl : _ + Int32.ofInt 1 = _ + 1)) (by decide) ?_
          refine zz_goto (tgt := 4) C dX2_loadOf_40 (by decide) ?_
          refine zz_loc2 (ih (i + 1) (by omega) (by omega)) ⟨rfl, rfl, ?_, rfl, trivial⟩
          clear ih
          show some _ = some _
          first | rfl | (simp_all [qa_load, qa_pw, zz_b, -Int32.not_le, -Int32.not_lt]; done)
        · refine zz_iconst (v := 0) C dX2_loadOf_21 (by decide) ?_
          refine zz_goto (tgt := 35) C dX2_loadOf_22 (by decide) ?_
          refine zz_iadd C dX2_loadOf_35 ?_
          refine zz_istore_n C dX2_loadOf_36 (by decide) ?_
          refine zz_iinc C dX2_loadOf_37 rfl (by first | exact nI_1 _ | exact (rfl : _ + Int32.ofInt 1 = _ + 1)) (by decide) ?_
          refine zz_goto (tgt := 4) C dX2_loadOf_40 (by decide) ?_
          refine zz_loc2 (ih (i + 1) (by omega) (by omega)) ⟨rfl, rfl, ?_, rfl, trivial⟩
          clear ih
          show some _ = some _
          first | rfl | (simp_all [qa_load, qa_pw, zz_b, -Int32.not_le, -Int32.not_lt]; done)
  exact zz_loc2 (L4 (5 + 1) 0 (by omega) (by omega)) ⟨rfl, rfl, rfl, rfl, trivial⟩

theorem ct_X2_blocksOn {l : Launch} {D : va_G} {b0 : Nat} {h : zz_H} {x s0 : Nat} {a : Nat → Int32} {v0 : Int32} (nb : Nat) (h5 : a 5 = nI nb) (hnb : nb ≤ 24) (hM : tw_M D h x s0 a) : zz_Ct l D b0 yX2_blocksOn cX2_blocksOn 4 (some .int) 2 45 0 0 [.ref x, .int v0] h (fun v h' => v = some (.int (qa_on a nb v0 5)) ∧ h' = h) := by
  refine zz_Ct.of zy_X2_blocksOn.1 rfl ?_
  intro p e s m below meth c C
  have hM0 := hM
  obtain ⟨fs, hx, hf0, hs⟩ := hM0
  refine zz_iconst (v := 0) C dX2_blocksOn_0 (by decide) ?_
  refine zz_istore_n C dX2_blocksOn_1 (by decide) ?_
  refine zz_iconst (v := 0) C dX2_blocksOn_2 (by decide) ?_
  refine zz_istore_n C dX2_blocksOn_3 (by decide) ?_
  have L4 : ∀ (n : Nat) (i : Nat), i ≤ 5 → 6 ≤ i + n → zz_V D b0 4 p l e ({ frames := 2, cells := 0, slots := 0, locals := 45 } : Jvm.Room) s m ([.ref x, .int v0] : List Value).toArray below meth c (MQ below (zz_Q D b0 (fun v h' => v = some (.int (qa_on a nb v0 5)) ∧ h' = h)) ([.ref x, .int v0] : List Value).toArray s 0 0 (fun q => b0 ≤ q)) 0 0 h [(0, .ref x), (1, .int v0), (2, .int (qa_on a nb v0 i)), (3, .int (nI i))] 4 [] := by
    intro n
    induction n with
    | zero =>
      intro i h1 h2
      exact absurd h2 (by omega)
    | succ n ih =>
      intro i h1 h2
      refine zz_iload_n C dX2_blocksOn_4 rfl ?_
      refine zz_iconst (v := 5) C dX2_blocksOn_5 (by decide) ?_
      refine zz_icmp_ge (tgt := 41) C dX2_blocksOn_6 (by decide) (fun c6 => ?_) (fun c6 => ?_)
      · have hi2 : 5 ≤ i := (nI_leI (a := 5) (by omega) (by omega)).mp c6
        obtain rfl : i = 5 := by omega
        refine zz_iload_n C dX2_blocksOn_41 rfl ?_
        refine zz_iret C dX2_blocksOn_42 rfl rfl ?_
        exact ⟨rfl, rfl⟩
      · have hi2 : i < 5 := Nat.not_le.mp (fun q => c6 (nI_le (a := 5) q (by omega)))
        refine zz_iload_n C dX2_blocksOn_9 rfl ?_
        first | refine zz_aload_n C dX2_blocksOn_10 rfl ?_ | refine zz_aload_nN C dX2_blocksOn_10 rfl ?_
        refine zz_iload_n C dX2_blocksOn_11 rfl ?_
        refine zz_iload_n C dX2_blocksOn_12 rfl ?_
        refine zz_callV C zy_X2_blockAt (ct_X2_blockAt nb h5 hnb hM) rfl q1383 (by first | assumption | exact zz_us | exact zz_lk1 (by assumption) (by assumption) | exact zz_lk3 (hd _ _ (by decide) (by decide) (by decide)) (by assumption) | exact zz_uf (by assumption) (by assumption) | (simp only [zz_up]; simp_all; done)) rfl rfl rfl rfl rfl rfl dX2_blocksOn_13 ⟨Nat.le_of_ble_eq_true rfl, Nat.le_of_ble_eq_true rfl⟩ (fun v hz hp => ?_)
        obtain ⟨rfl, ez⟩ := hp
        obtain rfl := ez.symm
        refine zz_bipush (v := (-6)) C dX2_blocksOn_16 (by decide) ?_
        refine zz_icmp_ne (tgt := 25) C dX2_blocksOn_18 (by decide) (fun c18 => ?_) (fun c18 => ?_)
        · refine zz_iconst (v := 1) C dX2_blocksOn_25 (by decide) ?_
          first | refine zz_aload_n C dX2_blocksOn_26 rfl ?_ | refine zz_aload_nN C dX2_blocksOn_26 rfl ?_
          refine zz_iload_n C dX2_blocksOn_27 rfl ?_
          refine zz_iload_n C dX2_blocksOn_28 rfl ?_
          refine zz_callV C zy_X2_blockAt (ct_X2_blockAt nb h5 hnb hM) rfl q1383 (by first | assumption | exact zz_us | exact zz_lk1 (by assumption) (by assumption) | exact zz_lk3 (hd _ _ (by decide) (by decide) (by decide)) (by assumption) | exact zz_uf (by assumption) (by assumption) | (simp only [zz_up]; simp_all; done)) rfl rfl rfl rfl rfl rfl dX2_blocksOn_29 ⟨Nat.le_of_ble_eq_true rfl, Nat.le_of_ble_eq_true rfl⟩ (fun v hz hp => ?_)
          obtain ⟨rfl, ez⟩ := hp
          obtain rfl := ez.symm
          refine zz_ishl C dX2_blocksOn_32 ?_
          refine zz_ior C dX2_blocksOn_33 ?_
          refine zz_istore_n C dX2_blocksOn_34 (by decide) ?_
          refine zz_iinc C dX2_blocksOn_35 rfl (by first | exact nI_1 _ | exact (rfl : _ + Int32.ofInt 1 = _ + 1)) (by decide) ?_
          refine zz_goto (tgt := 4) C dX2_blocksOn_38 (by decide) ?_
          refine zz_loc2 (ih (i + 1) (by omega) (by omega)) ⟨rfl, rfl, ?_, rfl, trivial⟩
          clear ih
          show some _ = some _
          first | rfl | (simp_all [qa_on, zz_b, -Int32.not_le, -Int32.not_lt]; done)
        · refine zz_iconst (v := 0) C dX2_blocksOn_21 (by decide) ?_
          refine zz_goto (tgt := 33) C dX2_blocksOn_22 (by decide) ?_
          refine zz_ior C dX2_blocksOn_33 ?_
          refine zz_istore_n C dX2_blocksOn_34 (by decide) ?_
          refine zz_iinc C dX2_blocksOn_35 rfl (by first | exact nI_1 _ | exact (rfl : _ + Int32.ofInt 1 = _ + 1)) (by decide) ?_
          refine zz_goto (tgt := 4) C dX2_blocksOn_38 (by decide) ?_
          refine zz_loc2 (ih (i + 1) (by omega) (by omega)) ⟨rfl, rfl, ?_, rfl, trivial⟩
          clear ih
          show some _ = some _
          first | rfl | (simp_all [qa_on, zz_b, -Int32.not_le, -Int32.not_lt]; done)
  exact zz_loc2 (L4 (5 + 1) 0 (by omega) (by omega)) ⟨rfl, rfl, rfl, rfl, trivial⟩

theorem ct_X2_hasCracked {l : Launch} {D : va_G} {b0 : Nat} {h : zz_H} {x s0 : Nat} {a : Nat → Int32} {v0 : Int32} (nb : Nat) (h5 : a 5 = nI nb) (hnb : nb ≤ 24) (hM : tw_M D h x s0 a) : zz_Ct l D b0 yX2_hasCracked cX2_hasCracked 5 (some .boolean) 2 45 0 0 [.ref x, .int v0] h (fun v h' => v = some (.int (zz_b (qa_hc a nb v0 5))) ∧ h' = h) := by
  refine zz_Ct.of zy_X2_hasCracked.1 rfl ?_
  intro p e s m below meth c C
  have hM0 := hM
  obtain ⟨fs, hx, hf0, hs⟩ := hM0
  refine zz_iconst (v := 0) C dX2_hasCracked_0 (by decide) ?_
  refine zz_istore_n C dX2_hasCracked_1 (by decide) ?_
  refine zz_iconst (v := 0) C dX2_hasCracked_2 (by decide) ?_
  refine zz_istore_n C dX2_hasCracked_3 (by decide) ?_
  have L4 : ∀ (n : Nat) (i : Nat), i ≤ 5 → 6 ≤ i + n → zz_V D b0 5 p l e ({ frames := 2, cells := 0, slots := 0, locals := 45 } : Jvm.Room) s m ([.ref x, .int v0] : List Value).toArray below meth c (MQ below (zz_Q D b0 (fun v h' => v = some (.int (zz_b (qa_hc a nb v0 5))) ∧ h' = h)) ([.ref x, .int v0] : List Value).toArray s 0 0 (fun q => b0 ≤ q)) 0 0 h [(0, .ref x), (1, .int v0), (2, .int (zz_b (qa_hc a nb v0 i))), (3, .int (nI i))] 4 [] := by
    intro n
    induction n with
    | zero =>
      intro i h1 h2
      exact absurd h2 (by omega)
    | succ n ih =>
      intro i h1 h2
      refine zz_iload_n C dX2_hasCracked_4 rfl ?_
      refine zz_iconst (v := 5) C dX2_hasCracked_5 (by decide) ?_
      refine zz_icmp_ge (tgt := 56) C dX2_hasCracked_6 (by decide) (fun c6 => ?_) (fun c6 => ?_)
      · have hi2 : 5 ≤ i := (nI_leI (a := 5) (by omega) (by omega)).mp c6
        obtain rfl : i = 5 := by omega
        refine zz_iload_n C dX2_hasCracked_56 rfl ?_
        refine zz_zret0 C (zz_narZ (by first | exact zz_b01 _ | decide | assumption)) dX2_hasCracked_57 rfl rfl ?_
        exact ⟨rfl, rfl⟩
      · have hi2 : i < 5 := Nat.not_le.mp (fun q => c6 (nI_le (a := 5) q (by omega)))
        first | refine zz_aload_n C dX2_hasCracked_9 rfl ?_ | refine zz_aload_nN C dX2_hasCracked_9 rfl ?_
        refine zz_iload_n C dX2_hasCracked_10 rfl ?_
        refine zz_iload_n C dX2_hasCracked_11 rfl ?_
        refine zz_callV C zy_X2_blockAt (ct_X2_blockAt nb h5 hnb hM) rfl q1383 (by first | assumption | exact zz_us | exact zz_lk1 (by assumption) (by assumption) | exact zz_lk3 (hd _ _ (by decide) (by decide) (by decide)) (by assumption) | exact zz_uf (by assumption) (by assumption) | (simp only [zz_up]; simp_all; done)) rfl rfl rfl rfl rfl rfl dX2_hasCracked_12 ⟨Nat.le_of_ble_eq_true rfl, Nat.le_of_ble_eq_true rfl⟩ (fun v hz hp => ?_)
        obtain ⟨rfl, ez⟩ := hp
        obtain rfl := ez.symm
        refine zz_istore C dX2_hasCracked_15 (by decide) ?_
        refine zz_iload_n C dX2_hasCracked_17 rfl ?_
        first | refine zz_ifb_ne (tgt := 44) C dX2_hasCracked_18 (by decide) (fun c18 => ?_) (fun c18 => ?_) | refine zz_if_ne (tgt := 44) C dX2_hasCracked_18 (by decide) (fun c18 => ?_) (fun c18 => ?_)
        · refine zz_iconst (v := 1) C dX2_hasCracked_44 (by decide) ?_
          refine zz_goto (tgt := 49) C dX2_hasCracked_45 (by decide) ?_
          refine zz_istore_n C dX2_hasCracked_49 (by decide) ?_
          refine zz_iinc C dX2_hasCracked_50 rfl (by first | exact nI_1 _ | exact (rfl : _ + Int32.ofInt 1 = _ + 1)) (by decide) ?_
          refine zz_goto (tgt := 4) C dX2_hasCracked_53 (by decide) ?_
          refine zz_loc2 (ih (i + 1) (by omega) (by omega)) ⟨rfl, rfl, ?_, rfl, trivial⟩
          clear ih
          show some _ = some _
          first | rfl | (simp_all [qa_hc, zz_b, -Int32.not_le, -Int32.not_lt]; done)
        · refine zz_iload C dX2_hasCracked_21 rfl ?_
          refine zz_bipush (v := (-6)) C dX2_hasCracked_23 (by decide) ?_
          refine zz_icmp_eq (tgt := 48) C dX2_hasCracked_25 (by decide) (fun c25 => ?_) (fun c25 => ?_)
          · refine zz_iconst (v := 0) C dX2_hasCracked_48 (by decide) ?_
            refine zz_istore_n C dX2_hasCracked_49 (by decide) ?_
            refine zz_iinc C dX2_hasCracked_50 rfl (by first | exact nI_1 _ | exact (rfl : _ + Int32.ofInt 1 = _ + 1)) (by decide) ?_
            refine zz_goto (tgt := 4) C dX2_hasCracked_53 (by decide) ?_
            refine zz_loc2 (ih (i + 1) (by omega) (by omega)) ⟨rfl, rfl, ?_, rfl, trivial⟩
            clear ih
            show some _ = some _
            first | rfl | (simp_all [qa_hc, zz_b, -Int32.not_le, -Int32.not_lt]; done)
          · obtain ⟨bk, hbk, ebk, spk⟩ := qa_find_i c25
            have ec : (nI bk).toNatClampNeg = bk := nI_clamp (by omega)
            have ebc : (qa_find a (5 * v0 + nI i) nb).toNatClampNeg = bk := by rw [ebk]; exact nI_clamp (by omega)
            first | refine zz_aload_n C dX2_hasCracked_28 rfl ?_ | refine zz_aload_nN C dX2_hasCracked_28 rfl ?_
            refine zz_get C rfl (by first | assumption | exact zz_us | exact zz_lk1 (by assumption) (by assumption) | exact zz_lk3 (hd _ _ (by decide) (by decide) (by decide)) (by assumption) | exact zz_uf (by assumption) (by assumption) | (simp only [zz_up]; simp_all; done)) rfl in_X2 0 rfl q1230 (fun _ h => h) (by first | rfl | assumption) dX2_hasCracked_29 ?_
            refine zz_iload C dX2_hasCracked_32 rfl ?_
            refine zz_bipush (v := nI 6) C dX2_hasCracked_34 (by decide) ?_
            refine zz_callS C zy_X2_at (ct_X2_at bk 6 ebk rfl) rfl q1310 rfl rfl rfl rfl rfl dX2_hasCracked_36 ⟨Nat.le_of_ble_eq_true rfl, Nat.le_of_ble_eq_true rfl⟩ (fun v hz hp => ?_)
            obtain ⟨rfl, ez⟩ := hp
            obtain rfl := ez.symm
            refine zz_iald C (by first | assumption | exact zz_us | exact zz_lk1 (by assumption) (by assumption) | exact zz_lk3 (hd _ _ (by decide) (by decide) (by decide)) (by assumption) | exact zz_uf (by assumption) (by assumption) | (simp only [zz_up]; simp_all; done)) rfl (by omega) (by omega) dX2_hasCracked_39 ?_
            refine zz_iconst (v := 1) C dX2_hasCracked_40 (by decide) ?_
            refine zz_icmp_ne (tgt := 48) C dX2_hasCracked_41 (by decide) (fun c41 => ?_) (fun c41 => ?_)
            · refine zz_iconst (v := 0) C dX2_hasCracked_48 (by decide) ?_
              refine zz_istore_n C dX2_hasCracked_49 (by decide) ?_
              refine zz_iinc C dX2_hasCracked_50 rfl (by first | exact nI_1 _ | exact (rfl : _ + Int32.ofInt 1 = _ + 1)) (by decide) ?_
              refine zz_goto (tgt := 4) C dX2_hasCracked_53 (by decide) ?_
              refine zz_loc2 (ih (i + 1) (by omega) (by omega)) ⟨rfl, rfl, ?_, rfl, trivial⟩
              clear ih
              show some _ = some _
              first | rfl | (simp_all [qa_hc, zz_b, -Int32.not_le, -Int32.not_lt]; done)
            · refine zz_iconst (v := 1) C dX2_hasCracked_44 (by decide) ?_
              refine zz_goto (tgt := 49) C dX2_hasCracked_45 (by decide) ?_
              refine zz_istore_n C dX2_hasCracked_49 (by decide) ?_
              refine zz_iinc C dX2_hasCracked_50 rfl (by first | exact nI_1 _ | exact (rfl : _ + Int32.ofInt 1 = _ + 1)) (by decide) ?_
              refine zz_goto (tgt := 4) C dX2_hasCracked_53 (by decide) ?_
              refine zz_loc2 (ih (i + 1) (by omega) (by omega)) ⟨rfl, rfl, ?_, rfl, trivial⟩
              clear ih
              show some _ = some _
              first | rfl | (simp_all [qa_hc, zz_b, -Int32.not_le, -Int32.not_lt]; done)
  exact zz_loc2 (L4 (5 + 1) 0 (by omega) (by omega)) ⟨rfl, rfl, rfl, rfl, trivial⟩

theorem ct_X2_wouldCrack {l : Launch} {D : va_G} {b0 : Nat} {h : zz_H} {x s0 : Nat} {a : Nat → Int32} {v0 : Int32} (b : Nat) (hv0 : v0 = nI b) (hb : b < 24) (hM : tw_M D h x s0 a) : zz_Ct l D b0 yX2_wouldCrack cX2_wouldCrack 2 (some .boolean) 2 43 0 0 [.ref x, .int v0] h (fun v h' => v = some (.int (zz_b (qa_wc a b))) ∧ h' = h) := by
  refine zz_Ct.of zy_X2_wouldCrack.1 rfl ?_
  intro p e s m below meth c C
  subst hv0
  have hM0 := hM
  obtain ⟨fs, hx, hf0, hs⟩ := hM0
  first | refine zz_aload_n C dX2_wouldCrack_0 rfl ?_ | refine zz_aload_nN C dX2_wouldCrack_0 rfl ?_
  refine zz_iload_n C dX2_wouldCrack_1 rfl ?_
  refine zz_iconst (v := 0) C dX2_wouldCrack_2 (by decide) ?_
  refine zz_callV C zy_X2_isAt (ct_X2_isAt b rfl hb hM) rfl q1333 (by first | assumption | exact zz_us | exact zz_lk1 (by assumption) (by assumption) | exact zz_lk3 (hd _ _ (by decide) (by decide) (by decide)) (by assumption) | exact zz_uf (by assumption) (by assumption) | (simp only [zz_up]; simp_all; done)) rfl rfl rfl rfl rfl rfl dX2_wouldCrack_3 ⟨Nat.le_of_ble_eq_true rfl, Nat.le_of_ble_eq_true rfl⟩ (fun v hz hp => ?_)
  obtain ⟨rfl, ez⟩ := hp
  obtain rfl := ez.symm
  first | refine zz_ifb_eq (tgt := 40) C dX2_wouldCrack_6 (by decide) (fun c6 => ?_) (fun c6 => ?_) | refine zz_if_eq (tgt := 40) C dX2_wouldCrack_6 (by decide) (fun c6 => ?_) (fun c6 => ?_)
  · refine zz_iconst (v := 0) C dX2_wouldCrack_40 (by decide) ?_
    refine zz_zret0 C (zz_narZ (by first | exact zz_b01 _ | decide | assumption)) dX2_wouldCrack_41 rfl rfl ?_
    exact ⟨by first | rfl | (simp_all [zz_b, qa_wc, -Int32.not_le, -Int32.not_lt]; done) | (simp_all [zz_b, qa_wc, -Int32.not_le, -Int32.not_lt] <;> (first | (rcases ‹_ ∨ _› with q | q <;> simp_all [-Int32.not_le, -Int32.not_lt]; done))), rfl⟩
  · first | refine zz_aload_n C dX2_wouldCrack_9 rfl ?_ | refine zz_aload_nN C dX2_wouldCrack_9 rfl ?_
    refine zz_get C rfl (by first | assumption | exact zz_us | exact zz_lk1 (by assumption) (by assumption) | exact zz_lk3 (hd _ _ (by decide) (by decide) (by decide)) (by assumption) | exact zz_uf (by assumption) (by assumption) | (simp only [zz_up]; simp_all; done)) rfl in_X2 0 rfl q1230 (fun _ h => h) (by first | rfl | assumption) dX2_wouldCrack_10 ?_
    refine zz_iload_n C dX2_wouldCrack_13 rfl ?_
    refine zz_iconst (v := nI 5) C dX2_wouldCrack_14 (by decide) ?_
    refine zz_callS C zy_X2_at (ct_X2_at _ _ rfl rfl) rfl q1310 rfl rfl rfl rfl rfl dX2_wouldCrack_15 ⟨Nat.le_of_ble_eq_true rfl, Nat.le_of_ble_eq_true rfl⟩ (fun v hz hp => ?_)
    obtain ⟨rfl, ez⟩ := hp
    obtain rfl := ez.symm
    refine zz_iald C (by first | assumption | exact zz_us | exact zz_lk1 (by assumption) (by assumption) | exact zz_lk3 (hd _ _ (by decide) (by decide) (by decide)) (by assumption) | exact zz_uf (by assumption) (by assumption) | (simp only [zz_up]; simp_all; done)) rfl (by omega) (by omega) dX2_wouldCrack_18 ?_
    refine zz_if_le (tgt := 40) C dX2_wouldCrack_19 (by decide) (fun c19 => ?_) (fun c19 => ?_)
    · refine zz_iconst (v := 0) C dX2_wouldCrack_40 (by decide) ?_
      refine zz_zret0 C (zz_narZ (by first | exact zz_b01 _ | decide | assumption)) dX2_wouldCrack_41 rfl rfl ?_
      exact ⟨by first | rfl | (simp_all [zz_b, qa_wc, -Int32.not_le, -Int32.not_lt]; done) | (simp_all [zz_b, qa_wc, -Int32.not_le, -Int32.not_lt] <;> (first | (rcases ‹_ ∨ _› with q | q <;> simp_all [-Int32.not_le, -Int32.not_lt]; done))), rfl⟩
    · first | refine zz_aload_n C dX2_wouldCrack_22 rfl ?_ | refine zz_aload_nN C dX2_wouldCrack_22 rfl ?_
      refine zz_get C rfl (by first | assumption | exact zz_us | exact zz_lk1 (by assumption) (by assumption) | exact zz_lk3 (hd _ _ (by decide) (by decide) (by decide)) (by assumption) | exact zz_uf (by assumption) (by assumption) | (simp only [zz_up]; simp_all; done)) rfl in_X2 0 rfl q1230 (fun _ h => h) (by first | rfl | assumption) dX2_wouldCrack_23 ?_
      refine zz_iload_n C dX2_wouldCrack_26 rfl ?_
      refine zz_bipush (v := nI 6) C dX2_wouldCrack_27 (by decide) ?_
      refine zz_callS C zy_X2_at (ct_X2_at _ _ rfl rfl) rfl q1310 rfl rfl rfl rfl rfl dX2_wouldCrack_29 ⟨Nat.le_of_ble_eq_true rfl, Nat.le_of_ble_eq_true rfl⟩ (fun v hz hp => ?_)
      obtain ⟨rfl, ez⟩ := hp
      obtain rfl := ez.symm
      refine zz_iald C (by first | assumption | exact zz_us | exact zz_lk1 (by assumption) (by assumption) | exact zz_lk3 (hd _ _ (by decide) (by decide) (by decide)) (by assumption) | exact zz_uf (by assumption) (by assumption) | (simp only [zz_up]; simp_all; done)) rfl (by omega) (by omega) dX2_wouldCrack_32 ?_
      first | refine zz_ifb_ne (tgt := 40) C dX2_wouldCrack_33 (by decide) (fun c33 => ?_) (fun c33 => ?_) | refine zz_if_ne (tgt := 40) C dX2_wouldCrack_33 (by decide) (fun c33 => ?_) (fun c33 => ?_)
      · refine zz_iconst (v := 0) C dX2_wouldCrack_40 (by decide) ?_
        refine zz_zret0 C (zz_narZ (by first | exact zz_b01 _ | decide | assumption)) dX2_wouldCrack_41 rfl rfl ?_
        exact ⟨by first | rfl | (simp_all [zz_b, qa_wc, -Int32.not_le, -Int32.not_lt]; done) | (simp_all [zz_b, qa_wc, -Int32.not_le, -Int32.not_lt] <;> (first | (rcases ‹_ ∨ _› with q | q <;> simp_all [-Int32.not_le, -Int32.not_lt]; done))), rfl⟩
      · refine zz_iconst (v := 1) C dX2_wouldCrack_36 (by decide) ?_
        refine zz_goto (tgt := 41) C dX2_wouldCrack_37 (by decide) ?_
        refine zz_zret0 C (zz_narZ (by first | exact zz_b01 _ | decide | assumption)) dX2_wouldCrack_41 rfl rfl ?_
        exact ⟨by first | rfl | (simp_all [zz_b, qa_wc, -Int32.not_le, -Int32.not_lt]; done) | (simp_all [zz_b, qa_wc, -Int32.not_le, -Int32.not_lt] <;> (first | (rcases ‹_ ∨ _› with q | q <;> simp_all [-Int32.not_le, -Int32.not_lt]; done))), rfl⟩

theorem ct_X2_canBeCut {l : Launch} {D : va_G} {b0 : Nat} {h : zz_H} {x s0 : Nat} {a : Nat → Int32} {v0 : Int32} (b : Nat) (hv0 : v0 = nI b) (hb : b < 24) (hM : tw_M D h x s0 a) : zz_Ct l D b0 yX2_canBeCut cX2_canBeCut 2 (some .boolean) 3 64 0 0 [.ref x, .int v0] h (fun v h' => v = some (.int (zz_b (qa_cbc a b))) ∧ h' = h) := by
  refine zz_Ct.of zy_X2_canBeCut.1 rfl ?_
  intro p e s m below meth c C
  subst hv0
  have hM0 := hM
  obtain ⟨fs, hx, hf0, hs⟩ := hM0
  first | refine zz_aload_n C dX2_canBeCut_0 rfl ?_ | refine zz_aload_nN C dX2_canBeCut_0 rfl ?_
  refine zz_get C rfl (by first | assumption | exact zz_us | exact zz_lk1 (by assumption) (by assumption) | exact zz_lk3 (hd _ _ (by decide) (by decide) (by decide)) (by assumption) | exact zz_uf (by assumption) (by assumption) | (simp only [zz_up]; simp_all; done)) rfl in_X2 0 rfl q1230 (fun _ h => h) (by first | rfl | assumption) dX2_canBeCut_1 ?_
  refine zz_bipush (v := nI 7) C dX2_canBeCut_4 (by decide) ?_
  refine zz_iald C (by first | assumption | exact zz_us | exact zz_lk1 (by assumption) (by assumption) | exact zz_lk3 (hd _ _ (by decide) (by decide) (by decide)) (by assumption) | exact zz_uf (by assumption) (by assumption) | (simp only [zz_up]; simp_all; done)) rfl (by omega) (by omega) dX2_canBeCut_6 ?_
  first | refine zz_ifb_ne (tgt := 38) C dX2_canBeCut_7 (by decide) (fun c7 => ?_) (fun c7 => ?_) | refine zz_if_ne (tgt := 38) C dX2_canBeCut_7 (by decide) (fun c7 => ?_) (fun c7 => ?_)
  · refine zz_iconst (v := 0) C dX2_canBeCut_38 (by decide) ?_
    refine zz_zret0 C (zz_narZ (by first | exact zz_b01 _ | decide | assumption)) dX2_canBeCut_39 rfl rfl ?_
    exact ⟨by first | rfl | (simp_all [zz_b, qa_cbc, -Int32.not_le, -Int32.not_lt]; done) | (simp_all [zz_b, qa_cbc, -Int32.not_le, -Int32.not_lt] <;> (first | (rcases ‹_ ∨ _› with q | q <;> simp_all [-Int32.not_le, -Int32.not_lt]; done))), rfl⟩
  · first | refine zz_aload_n C dX2_canBeCut_10 rfl ?_ | refine zz_aload_nN C dX2_canBeCut_10 rfl ?_
    refine zz_iload_n C dX2_canBeCut_11 rfl ?_
    refine zz_callV C zy_X2_isHere (ct_X2_isHere b rfl hb hM) rfl q1329 (by first | assumption | exact zz_us | exact zz_lk1 (by assumption) (by assumption) | exact zz_lk3 (hd _ _ (by decide) (by decide) (by decide)) (by assumption) | exact zz_uf (by assumption) (by assumption) | (simp only [zz_up]; simp_all; done)) rfl rfl rfl rfl rfl rfl dX2_canBeCut_12 ⟨Nat.le_of_ble_eq_true rfl, Nat.le_of_ble_eq_true rfl⟩ (fun v hz hp => ?_)
    obtain ⟨rfl, ez⟩ := hp
    obtain rfl := ez.symm
    first | refine zz_ifb_eq (tgt := 38) C dX2_canBeCut_15 (by decide) (fun c15 => ?_) (fun c15 => ?_) | refine zz_if_eq (tgt := 38) C dX2_canBeCut_15 (by decide) (fun c15 => ?_) (fun c15 => ?_)
    · refine zz_iconst (v := 0) C dX2_canBeCut_38 (by decide) ?_
      refine zz_zret0 C (zz_narZ (by first | exact zz_b01 _ | decide | assumption)) dX2_canBeCut_39 rfl rfl ?_
      exact ⟨by first | rfl | (simp_all [zz_b, qa_cbc, -Int32.not_le, -Int32.not_lt]; done) | (simp_all [zz_b, qa_cbc, -Int32.not_le, -Int32.not_lt] <;> (first | (rcases ‹_ ∨ _› with q | q <;> simp_all [-Int32.not_le, -Int32.not_lt]; done))), rfl⟩
    · first | refine zz_aload_n C dX2_canBeCut_18 rfl ?_ | refine zz_aload_nN C dX2_canBeCut_18 rfl ?_
      refine zz_get C rfl (by first | assumption | exact zz_us | exact zz_lk1 (by assumption) (by assumption) | exact zz_lk3 (hd _ _ (by decide) (by decide) (by decide)) (by assumption) | exact zz_uf (by assumption) (by assumption) | (simp only [zz_up]; simp_all; done)) rfl in_X2 0 rfl q1230 (fun _ h => h) (by first | rfl | assumption) dX2_canBeCut_19 ?_
      refine zz_iload_n C dX2_canBeCut_22 rfl ?_
      refine zz_bipush (v := nI 7) C dX2_canBeCut_23 (by decide) ?_
      refine zz_callS C zy_X2_at (ct_X2_at _ _ rfl rfl) rfl q1310 rfl rfl rfl rfl rfl dX2_canBeCut_25 ⟨Nat.le_of_ble_eq_true rfl, Nat.le_of_ble_eq_true rfl⟩ (fun v hz hp => ?_)
      obtain ⟨rfl, ez⟩ := hp
      obtain rfl := ez.symm
      refine zz_iald C (by first | assumption | exact zz_us | exact zz_lk1 (by assumption) (by assumption) | exact zz_lk3 (hd _ _ (by decide) (by decide) (by decide)) (by assumption) | exact zz_uf (by assumption) (by assumption) | (simp only [zz_up]; simp_all; done)) rfl (by omega) (by omega) dX2_canBeCut_28 ?_
      refine zz_bipush (v := (-6)) C dX2_canBeCut_29 (by decide) ?_
      refine zz_icmp_ne (tgt := 38) C dX2_canBeCut_31 (by decide) (fun c31 => ?_) (fun c31 => ?_)
      · refine zz_iconst (v := 0) C dX2_canBeCut_38 (by decide) ?_
        refine zz_zret0 C (zz_narZ (by first | exact zz_b01 _ | decide | assumption)) dX2_canBeCut_39 rfl rfl ?_
        exact ⟨by first | rfl | (simp_all [zz_b, qa_cbc, -Int32.not_le, -Int32.not_lt]; done) | (simp_all [zz_b, qa_cbc, -Int32.not_le, -Int32.not_lt] <;> (first | (rcases ‹_ ∨ _› with q | q <;> simp_all [-Int32.not_le, -Int32.not_lt]; done))), rfl⟩
      · refine zz_iconst (v := 1) C dX2_canBeCut_34 (by decide) ?_
        refine zz_goto (tgt := 39) C dX2_canBeCut_35 (by decide) ?_
        refine zz_zret0 C (zz_narZ (by first | exact zz_b01 _ | decide | assumption)) dX2_canBeCut_39 rfl rfl ?_
        exact ⟨by first | rfl | (simp_all [zz_b, qa_cbc, -Int32.not_le, -Int32.not_lt]; done) | (simp_all [zz_b, qa_cbc, -Int32.not_le, -Int32.not_lt] <;> (first | (rcases ‹_ ∨ _› with q | q <;> simp_all [-Int32.not_le, -Int32.not_lt]; done))), rfl⟩

theorem ct_X2_setOf {l : Launch} {D : va_G} {b0 : Nat} {h : zz_H} {x s0 : Nat} {a : Nat → Int32} {c0 : Bool} (nb : Nat) (h5 : a 5 = nI nb) (hnb : nb ≤ 24) (hM : tw_M D h x s0 a) : zz_Ct l D b0 yX2_setOf cX2_setOf 5 (some .int) 2 43 0 0 [.ref x, .int (zz_b c0)] h (fun v h' => v = some (.int (qa_or (qa_setf a c0) nb)) ∧ h' = h) := by
  refine zz_Ct.of zy_X2_setOf.1 rfl ?_
  intro p e s m below meth c C
  have hM0 := hM
  obtain ⟨fs, hx, hf0, hs⟩ := hM0
  refine zz_iconst (v := 0) C dX2_setOf_0 (by decide) ?_
  refine zz_istore_n C dX2_setOf_1 (by decide) ?_
  refine zz_iconst (v := 0) C dX2_setOf_2 (by decide) ?_
  refine zz_istore_n C dX2_setOf_3 (by decide) ?_
  have L4 : ∀ (n : Nat) (i : Nat), i ≤ nb → nb + 1 ≤ i + n → zz_V D b0 5 p l e ({ frames := 2, cells := 0, slots := 0, locals := 43 } : Jvm.Room) s m ([.ref x, .int (zz_b c0)] : List Value).toArray below meth c (MQ below (zz_Q D b0 (fun v h' => v = some (.int (qa_or (qa_setf a c0) nb)) ∧ h' = h)) ([.ref x, .int (zz_b c0)] : List Value).toArray s 0 0 (fun q => b0 ≤ q)) 0 0 h [(0, .ref x), (1, .int (zz_b c0)), (2, .int (qa_or (qa_setf a c0) i)), (3, .int (nI i))] 4 [] := by
    intro n
    induction n with
    | zero =>
      intro i h1 h2
      exact absurd h2 (by omega)
    | succ n ih =>
      intro i h1 h2
      refine zz_iload_n C dX2_setOf_4 rfl ?_
      first | refine zz_aload_n C dX2_setOf_5 rfl ?_ | refine zz_aload_nN C dX2_setOf_5 rfl ?_
      refine zz_get C rfl (by first | assumption | exact zz_us | exact zz_lk1 (by assumption) (by assumption) | exact zz_lk3 (hd _ _ (by decide) (by decide) (by decide)) (by assumption) | exact zz_uf (by assumption) (by assumption) | (simp only [zz_up]; simp_all; done)) rfl in_X2 0 rfl q1230 (fun _ h => h) (by first | rfl | assumption) dX2_setOf_6 ?_
      refine zz_iconst (v := nI 5) C dX2_setOf_9 (by decide) ?_
      refine zz_iald C (by first | assumption | exact zz_us | exact zz_lk1 (by assumption) (by assumption) | exact zz_lk3 (hd _ _ (by decide) (by decide) (by decide)) (by assumption) | exact zz_uf (by assumption) (by assumption) | (simp only [zz_up]; simp_all; done)) rfl (by omega) (by omega) dX2_setOf_10 ?_
      refine zz_icmp_ge (tgt := 79) C dX2_setOf_11 (by decide) (fun c11 => ?_) (fun c11 => ?_)
      · have hi2 : nb ≤ i := (nI_leI (by omega) (by omega)).mp (by rw [← h5]; exact c11)
        obtain rfl : i = nb := by omega
        refine zz_iload_n C dX2_setOf_79 rfl ?_
        refine zz_iret C dX2_setOf_80 rfl rfl ?_
        exact ⟨rfl, rfl⟩
      · have hi2 : i < nb := Nat.not_le.mp (fun q => c11 (by rw [h5]; exact nI_le q (by omega)))
        refine zz_iload_n C dX2_setOf_14 rfl ?_
        first | refine zz_ifb_eq (tgt := 50) C dX2_setOf_15 (by decide) (fun c15 => ?_) (fun c15 => ?_) | refine zz_if_eq (tgt := 50) C dX2_setOf_15 (by decide) (fun c15 => ?_) (fun c15 => ?_)
        · first | refine zz_aload_n C dX2_setOf_50 rfl ?_ | refine zz_aload_nN C dX2_setOf_50 rfl ?_
          refine zz_iload_n C dX2_setOf_51 rfl ?_
          refine zz_iconst (v := 1) C dX2_setOf_52 (by decide) ?_
          refine zz_callV C zy_X2_isAt (ct_X2_isAt i rfl (by omega) hM) rfl q1333 (by first | assumption | exact zz_us | exact zz_lk1 (by assumption) (by assumption) | exact zz_lk3 (hd _ _ (by decide) (by decide) (by decide)) (by assumption) | exact zz_uf (by assumption) (by assumption) | (simp only [zz_up]; simp_all; done)) rfl rfl rfl rfl rfl rfl dX2_setOf_53 ⟨Nat.le_of_ble_eq_true rfl, Nat.le_of_ble_eq_true rfl⟩ (fun v hz hp => ?_)
          obtain ⟨rfl, ez⟩ := hp
          obtain rfl := ez.symm
          refine zz_istore C dX2_setOf_56 (by decide) ?_
          refine zz_iload_n C dX2_setOf_58 rfl ?_
          refine zz_iload C dX2_setOf_59 rfl ?_
          first | refine zz_ifb_eq (tgt := 70) C dX2_setOf_61 (by decide) (fun c61 => ?_) (fun c61 => ?_) | refine zz_if_eq (tgt := 70) C dX2_setOf_61 (by decide) (fun c61 => ?_) (fun c61 => ?_)
          · refine zz_iconst (v := 0) C dX2_setOf_70 (by decide) ?_
            refine zz_ior C dX2_setOf_71 ?_
            refine zz_istore_n C dX2_setOf_72 (by decide) ?_
            refine zz_iinc C dX2_setOf_73 rfl (by first | exact nI_1 _ | exact (rfl : _ + Int32.ofInt 1 = _ + 1)) (by decide) ?_
            refine zz_goto (tgt := 4) C dX2_setOf_76 (by decide) ?_
            refine zz_loc2 (ih (i + 1) (by omega) (by omega)) ⟨rfl, rfl, ?_, rfl, trivial⟩
            clear ih
            show some _ = some _
            first | rfl | (simp_all [qa_or, qa_setf, zz_b, -Int32.not_le, -Int32.not_lt]; done)
          · refine zz_iconst (v := 1) C dX2_setOf_64 (by decide) ?_
            refine zz_iload_n C dX2_setOf_65 rfl ?_
            refine zz_ishl C dX2_setOf_66 ?_
            refine zz_goto (tgt := 71) C dX2_setOf_67 (by decide) ?_
            refine zz_ior C dX2_setOf_71 ?_
            refine zz_istore_n C dX2_setOf_72 (by decide) ?_
            refine zz_iinc C dX2_setOf_73 rfl (by first | exact nI_1 _ | exact (rfl : _ + Int32.ofInt 1 = _ + 1)) (by decide) ?_
            refine zz_goto (tgt := 4) C dX2_setOf_76 (by decide) ?_
            refine zz_loc2 (ih (i + 1) (by omega) (by omega)) ⟨rfl, rfl, ?_, rfl, trivial⟩
            clear ih
            show some _ = some _
            first | rfl | (simp_all [qa_or, qa_setf, zz_b, -Int32.not_le, -Int32.not_lt]; done)
        · first | refine zz_aload_n C dX2_setOf_18 rfl ?_ | refine zz_aload_nN C dX2_setOf_18 rfl ?_
          refine zz_get C rfl (by first | assumption | exact zz_us | exact zz_lk1 (by assumption) (by assumption) | exact zz_lk3 (hd _ _ (by decide) (by decide) (by decide)) (by assumption) | exact zz_uf (by assumption) (by assumption) | (simp only [zz_up]; simp_all; done)) rfl in_X2 0 rfl q1230 (fun _ h => h) (by first | rfl | assumption) dX2_setOf_19 ?_
          refine zz_iload_n C dX2_setOf_22 rfl ?_
          refine zz_bipush (v := nI 6) C dX2_setOf_23 (by decide) ?_
          refine zz_callS C zy_X2_at (ct_X2_at _ _ rfl rfl) rfl q1310 rfl rfl rfl rfl rfl dX2_setOf_25 ⟨Nat.le_of_ble_eq_true rfl, Nat.le_of_ble_eq_true rfl⟩ (fun v hz hp => ?_)
          obtain ⟨rfl, ez⟩ := hp
          obtain rfl := ez.symm
          refine zz_iald C (by first | assumption | exact zz_us | exact zz_lk1 (by assumption) (by assumption) | exact zz_lk3 (hd _ _ (by decide) (by decide) (by decide)) (by assumption) | exact zz_uf (by assumption) (by assumption) | (simp only [zz_up]; simp_all; done)) rfl (by omega) (by omega) dX2_setOf_28 ?_
          refine zz_iconst (v := 1) C dX2_setOf_29 (by decide) ?_
          refine zz_icmp_ne (tgt := 46) C dX2_setOf_30 (by decide) (fun c30 => ?_) (fun c30 => ?_)
          · refine zz_iconst (v := 0) C dX2_setOf_46 (by decide) ?_
            refine zz_goto (tgt := 56) C dX2_setOf_47 (by decide) ?_
            refine zz_istore C dX2_setOf_56 (by decide) ?_
            refine zz_iload_n C dX2_setOf_58 rfl ?_
            refine zz_iload C dX2_setOf_59 rfl ?_
            first | refine zz_ifb_eq (tgt := 70) C dX2_setOf_61 (by decide) (fun c61 => ?_) (fun c61 => ?_) | refine zz_if_eq (tgt := 70) C dX2_setOf_61 (by decide) (fun c61 => ?_) (fun c61 => ?_)
            · refine zz_iconst (v := 0) C dX2_setOf_70 (by decide) ?_
              refine zz_ior C dX2_setOf_71 ?_
              refine zz_istore_n C dX2_setOf_72 (by decide) ?_
              refine zz_iinc C dX2_setOf_73 rfl (by first | exact nI_1 _ | exact (rfl : _ + Int32.ofInt 1 = _ + 1)) (by decide) ?_
              refine zz_goto (tgt := 4) C dX2_setOf_76 (by decide) ?_
              refine zz_loc2 (ih (i + 1) (by omega) (by omega)) ⟨rfl, rfl, ?_, rfl, trivial⟩
              clear ih
              show some _ = some _
              first | rfl | (simp_all [qa_or, qa_setf, zz_b, -Int32.not_le, -Int32.not_lt]; done)
            · refine zz_iconst (v := 1) C dX2_setOf_64 (by decide) ?_
              refine zz_iload_n C dX2_setOf_65 rfl ?_
              refine zz_ishl C dX2_setOf_66 ?_
              refine zz_goto (tgt := 71) C dX2_setOf_67 (by decide) ?_
              refine zz_ior C dX2_setOf_71 ?_
              refine zz_istore_n C dX2_setOf_72 (by decide) ?_
              refine zz_iinc C dX2_setOf_73 rfl (by first | exact nI_1 _ | exact (rfl : _ + Int32.ofInt 1 = _ + 1)) (by decide) ?_
              refine zz_goto (tgt := 4) C dX2_setOf_76 (by decide) ?_
              refine zz_loc2 (ih (i + 1) (by omega) (by omega)) ⟨rfl, rfl, ?_, rfl, trivial⟩
              clear ih
              show some _ = some _
              first | rfl | (simp_all [qa_or, qa_setf, zz_b, -Int32.not_le, -Int32.not_lt]; done)
          · first | refine zz_aload_n C dX2_setOf_33 rfl ?_ | refine zz_aload_nN C dX2_setOf_33 rfl ?_
            refine zz_iload_n C dX2_setOf_34 rfl ?_
            refine zz_iconst (v := 4) C dX2_setOf_35 (by decide) ?_
            refine zz_callV C zy_X2_isAt (ct_X2_isAt i rfl (by omega) hM) rfl q1333 (by first | assumption | exact zz_us | exact zz_lk1 (by assumption) (by assumption) | exact zz_lk3 (hd _ _ (by decide) (by decide) (by decide)) (by assumption) | exact zz_uf (by assumption) (by assumption) | (simp only [zz_up]; simp_all; done)) rfl rfl rfl rfl rfl rfl dX2_setOf_36 ⟨Nat.le_of_ble_eq_true rfl, Nat.le_of_ble_eq_true rfl⟩ (fun v hz hp => ?_)
            obtain ⟨rfl, ez⟩ := hp
            obtain rfl := ez.symm
            first | refine zz_ifb_ne (tgt := 46) C dX2_setOf_39 (by decide) (fun c39 => ?_) (fun c39 => ?_) | refine zz_if_ne (tgt := 46) C dX2_setOf_39 (by decide) (fun c39 => ?_) (fun c39 => ?_)
            · refine zz_iconst (v := 0) C dX2_setOf_46 (by decide) ?_
              refine zz_goto (tgt := 56) C dX2_setOf_47 (by decide) ?_
              refine zz_istore C dX2_setOf_56 (by decide) ?_
              refine zz_iload_n C dX2_setOf_58 rfl ?_
              refine zz_iload C dX2_setOf_59 rfl ?_
              first | refine zz_ifb_eq (tgt := 70) C dX2_setOf_61 (by decide) (fun c61 => ?_) (fun c61 => ?_) | refine zz_if_eq (tgt := 70) C dX2_setOf_61 (by decide) (fun c61 => ?_) (fun c61 => ?_)
              · refine zz_iconst (v := 0) C dX2_setOf_70 (by decide) ?_
                refine zz_ior C dX2_setOf_71 ?_
                refine zz_istore_n C dX2_setOf_72 (by decide) ?_
                refine zz_iinc C dX2_setOf_73 rfl (by first | exact nI_1 _ | exact (rfl : _ + Int32.ofInt 1 = _ + 1)) (by decide) ?_
                refine zz_goto (tgt := 4) C dX2_setOf_76 (by decide) ?_
                refine zz_loc2 (ih (i + 1) (by omega) (by omega)) ⟨rfl, rfl, ?_, rfl, trivial⟩
                clear ih
                show some _ = some _
                first | rfl | (simp_all [qa_or, qa_setf, zz_b, -Int32.not_le, -Int32.not_lt]; done)
              · refine zz_iconst (v := 1) C dX2_setOf_64 (by decide) ?_
                refine zz_iload_n C dX2_setOf_65 rfl ?_
                refine zz_ishl C dX2_setOf_66 ?_
                refine zz_goto (tgt := 71) C dX2_setOf_67 (by decide) ?_
                refine zz_ior C dX2_setOf_71 ?_
                refine zz_istore_n C dX2_setOf_72 (by decide) ?_
                refine zz_iinc C dX2_setOf_73 rfl (by first | exact nI_1 _ | exact (rfl : _ + Int32.ofInt 1 = _ + 1)) (by decide) ?_
                refine zz_goto (tgt := 4) C dX2_setOf_76 (by decide) ?_
                refine zz_loc2 (ih (i + 1) (by omega) (by omega)) ⟨rfl, rfl, ?_, rfl, trivial⟩
                clear ih
                show some _ = some _
                first | rfl | (simp_all [qa_or, qa_setf, zz_b, -Int32.not_le, -Int32.not_lt]; done)
            · refine zz_iconst (v := 1) C dX2_setOf_42 (by decide) ?_
              refine zz_goto (tgt := 56) C dX2_setOf_43 (by decide) ?_
              refine zz_istore C dX2_setOf_56 (by decide) ?_
              refine zz_iload_n C dX2_setOf_58 rfl ?_
              refine zz_iload C dX2_setOf_59 rfl ?_
              first | refine zz_ifb_eq (tgt := 70) C dX2_setOf_61 (by decide) (fun c61 => ?_) (fun c61 => ?_) | refine zz_if_eq (tgt := 70) C dX2_setOf_61 (by decide) (fun c61 => ?_) (fun c61 => ?_)
              · refine zz_iconst (v := 0) C dX2_setOf_70 (by decide) ?_
                refine zz_ior C dX2_setOf_71 ?_
                refine zz_istore_n C dX2_setOf_72 (by decide) ?_
                refine zz_iinc C dX2_setOf_73 rfl (by first | exact nI_1 _ | exact (rfl : _ + Int32.ofInt 1 = _ + 1)) (by decide) ?_
                refine zz_goto (tgt := 4) C dX2_setOf_76 (by decide) ?_
                refine zz_loc2 (ih (i + 1) (by omega) (by omega)) ⟨rfl, rfl, ?_, rfl, trivial⟩
                clear ih
                show some _ = some _
                first | rfl | (simp_all [qa_or, qa_setf, zz_b, -Int32.not_le, -Int32.not_lt]; done)
              · refine zz_iconst (v := 1) C dX2_setOf_64 (by decide) ?_
                refine zz_iload_n C dX2_setOf_65 rfl ?_
                refine zz_ishl C dX2_setOf_66 ?_
                refine zz_goto (tgt := 71) C dX2_setOf_67 (by decide) ?_
                refine zz_ior C dX2_setOf_71 ?_
                refine zz_istore_n C dX2_setOf_72 (by decide) ?_
                refine zz_iinc C dX2_setOf_73 rfl (by first | exact nI_1 _ | exact (rfl : _ + Int32.ofInt 1 = _ + 1)) (by decide) ?_
                refine zz_goto (tgt := 4) C dX2_setOf_76 (by decide) ?_
                refine zz_loc2 (ih (i + 1) (by omega) (by omega)) ⟨rfl, rfl, ?_, rfl, trivial⟩
                clear ih
                show some _ = some _
                first | rfl | (simp_all [qa_or, qa_setf, zz_b, -Int32.not_le, -Int32.not_lt]; done)
  exact zz_loc2 (L4 (nb + 1) 0 (by omega) (by omega)) ⟨rfl, rfl, rfl, rfl, trivial⟩

theorem ct_X2_notCut {l : Launch} {D : va_G} {b0 : Nat} {h : zz_H} {x s0 : Nat} {a : Nat → Int32} {c0 : Bool} (nb : Nat) (h5 : a 5 = nI nb) (hnb : nb ≤ 24) (hM : tw_M D h x s0 a) : zz_Ct l D b0 yX2_notCut cX2_notCut 4 (some .int) 2 43 0 0 [.ref x, .int (zz_b c0)] h (fun v h' => v = some (.int (qa_sum (qa_ncf a c0) nb)) ∧ h' = h) := by
  refine zz_Ct.of zy_X2_notCut.1 rfl ?_
  intro p e s m below meth c C
  have hM0 := hM
  obtain ⟨fs, hx, hf0, hs⟩ := hM0
  refine zz_iconst (v := 0) C dX2_notCut_0 (by decide) ?_
  refine zz_istore_n C dX2_notCut_1 (by decide) ?_
  refine zz_iconst (v := 0) C dX2_notCut_2 (by decide) ?_
  refine zz_istore_n C dX2_notCut_3 (by decide) ?_
  have L4 : ∀ (n : Nat) (i : Nat), i ≤ nb → nb + 1 ≤ i + n → zz_V D b0 4 p l e ({ frames := 2, cells := 0, slots := 0, locals := 43 } : Jvm.Room) s m ([.ref x, .int (zz_b c0)] : List Value).toArray below meth c (MQ below (zz_Q D b0 (fun v h' => v = some (.int (qa_sum (qa_ncf a c0) nb)) ∧ h' = h)) ([.ref x, .int (zz_b c0)] : List Value).toArray s 0 0 (fun q => b0 ≤ q)) 0 0 h [(0, .ref x), (1, .int (zz_b c0)), (2, .int (qa_sum (qa_ncf a c0) i)), (3, .int (nI i))] 4 [] := by
    intro n
    induction n with
    | zero =>
      intro i h1 h2
      exact absurd h2 (by omega)
    | succ n ih =>
      intro i h1 h2
      refine zz_iload_n C dX2_notCut_4 rfl ?_
      first | refine zz_aload_n C dX2_notCut_5 rfl ?_ | refine zz_aload_nN C dX2_notCut_5 rfl ?_
      refine zz_get C rfl (by first | assumption | exact zz_us | exact zz_lk1 (by assumption) (by assumption) | exact zz_lk3 (hd _ _ (by decide) (by decide) (by decide)) (by assumption) | exact zz_uf (by assumption) (by assumption) | (simp only [zz_up]; simp_all; done)) rfl in_X2 0 rfl q1230 (fun _ h => h) (by first | rfl | assumption) dX2_notCut_6 ?_
      refine zz_iconst (v := nI 5) C dX2_notCut_9 (by decide) ?_
      refine zz_iald C (by first | assumption | exact zz_us | exact zz_lk1 (by assumption) (by assumption) | exact zz_lk3 (hd _ _ (by decide) (by decide) (by decide)) (by assumption) | exact zz_uf (by assumption) (by assumption) | (simp only [zz_up]; simp_all; done)) rfl (by omega) (by omega) dX2_notCut_10 ?_
      refine zz_icmp_ge (tgt := 49) C dX2_notCut_11 (by decide) (fun c11 => ?_) (fun c11 => ?_)
      · have hi2 : nb ≤ i := (nI_leI (by omega) (by omega)).mp (by rw [← h5]; exact c11)
        obtain rfl : i = nb := by omega
        refine zz_iload_n C dX2_notCut_49 rfl ?_
        refine zz_iret C dX2_notCut_50 rfl rfl ?_
        exact ⟨rfl, rfl⟩
      · have hi2 : i < nb := Nat.not_le.mp (fun q => c11 (by rw [h5]; exact nI_le q (by omega)))
        refine zz_iload_n C dX2_notCut_14 rfl ?_
        first | refine zz_aload_n C dX2_notCut_15 rfl ?_ | refine zz_aload_nN C dX2_notCut_15 rfl ?_
        refine zz_iload_n C dX2_notCut_16 rfl ?_
        refine zz_iconst (v := 4) C dX2_notCut_17 (by decide) ?_
        refine zz_callV C zy_X2_isAt (ct_X2_isAt i rfl (by omega) hM) rfl q1333 (by first | assumption | exact zz_us | exact zz_lk1 (by assumption) (by assumption) | exact zz_lk3 (hd _ _ (by decide) (by decide) (by decide)) (by assumption) | exact zz_uf (by assumption) (by assumption) | (simp only [zz_up]; simp_all; done)) rfl rfl rfl rfl rfl rfl dX2_notCut_18 ⟨Nat.le_of_ble_eq_true rfl, Nat.le_of_ble_eq_true rfl⟩ (fun v hz hp => ?_)
        obtain ⟨rfl, ez⟩ := hp
        obtain rfl := ez.symm
        first | refine zz_ifb_eq (tgt := 28) C dX2_notCut_21 (by decide) (fun c21 => ?_) (fun c21 => ?_) | refine zz_if_eq (tgt := 28) C dX2_notCut_21 (by decide) (fun c21 => ?_) (fun c21 => ?_)
        · refine zz_iload_n C dX2_notCut_28 rfl ?_
          first | refine zz_ifb_eq (tgt := 40) C dX2_notCut_29 (by decide) (fun c29 => ?_) (fun c29 => ?_) | refine zz_if_eq (tgt := 40) C dX2_notCut_29 (by decide) (fun c29 => ?_) (fun c29 => ?_)
          · refine zz_iconst (v := 1) C dX2_notCut_40 (by decide) ?_
            refine zz_iadd C dX2_notCut_41 ?_
            refine zz_istore_n C dX2_notCut_42 (by decide) ?_
            refine zz_iinc C dX2_notCut_43 rfl (by first | exact nI_1 _ | exact (rfl : _ + Int32.ofInt 1 = _ + 1)) (by decide) ?_
            refine zz_goto (tgt := 4) C dX2_notCut_46 (by decide) ?_
            refine zz_loc2 (ih (i + 1) (by omega) (by omega)) ⟨rfl, rfl, ?_, rfl, trivial⟩
            clear ih
            show some _ = some _
            first | rfl | (simp_all [qa_sum, qa_ncf, zz_b, -Int32.not_le, -Int32.not_lt]; done)
          · first | refine zz_aload_n C dX2_notCut_32 rfl ?_ | refine zz_aload_nN C dX2_notCut_32 rfl ?_
            refine zz_iload_n C dX2_notCut_33 rfl ?_
            refine zz_callV C zy_X2_weight (ct_X2_weight i rfl (by omega) hM) rfl q1313 (by first | assumption | exact zz_us | exact zz_lk1 (by assumption) (by assumption) | exact zz_lk3 (hd _ _ (by decide) (by decide) (by decide)) (by assumption) | exact zz_uf (by assumption) (by assumption) | (simp only [zz_up]; simp_all; done)) rfl rfl rfl rfl rfl rfl dX2_notCut_34 ⟨Nat.le_of_ble_eq_true rfl, Nat.le_of_ble_eq_true rfl⟩ (fun v hz hp => ?_)
            obtain ⟨rfl, ez⟩ := hp
            obtain rfl := ez.symm
            refine zz_goto (tgt := 41) C dX2_notCut_37 (by decide) ?_
            refine zz_iadd C dX2_notCut_41 ?_
            refine zz_istore_n C dX2_notCut_42 (by decide) ?_
            refine zz_iinc C dX2_notCut_43 rfl (by first | exact nI_1 _ | exact (rfl : _ + Int32.ofInt 1 = _ + 1)) (by decide) ?_
            refine zz_goto (tgt := 4) C dX2_notCut_46 (by decide) ?_
            refine zz_loc2 (ih (i + 1) (by omega) (by omega)) ⟨rfl, rfl, ?_, rfl, trivial⟩
            clear ih
            show some _ = some _
            first | rfl | (simp_all [qa_sum, qa_ncf, zz_b, -Int32.not_le, -Int32.not_lt]; done)
        · refine zz_iconst (v := 0) C dX2_notCut_24 (by decide) ?_
          refine zz_goto (tgt := 41) C dX2_notCut_25 (by decide) ?_
          refine zz_iadd C dX2_notCut_41 ?_
          refine zz_istore_n C dX2_notCut_42 (by decide) ?_
          refine zz_iinc C dX2_notCut_43 rfl (by first | exact nI_1 _ | exact (rfl : _ + Int32.ofInt 1 = _ + 1)) (by decide) ?_
          refine zz_goto (tgt := 4) C dX2_notCut_46 (by decide) ?_
          refine zz_loc2 (ih (i + 1) (by omega) (by omega)) ⟨rfl, rfl, ?_, rfl, trivial⟩
          clear ih
          show some _ = some _
          first | rfl | (simp_all [qa_sum, qa_ncf, zz_b, -Int32.not_le, -Int32.not_lt]; done)
  exact zz_loc2 (L4 (nb + 1) 0 (by omega) (by omega)) ⟨rfl, rfl, rfl, rfl, trivial⟩

theorem ct_X2_ifFrost {l : Launch} {D : va_G} {b0 : Nat} {h : zz_H} {x s0 : Nat} {a : Nat → Int32} (nb : Nat) (h5 : a 5 = nI nb) (hnb : nb ≤ 24) (hM : tw_M D h x s0 a) : zz_Ct l D b0 yX2_ifFrost cX2_ifFrost 3 (some .int) 3 64 0 0 [.ref x] h (fun v h' => v = some (.int (qa_or (qa_wc a) nb)) ∧ h' = h) := by
  refine zz_Ct.of zy_X2_ifFrost.1 rfl ?_
  intro p e s m below meth c C
  have hM0 := hM
  obtain ⟨fs, hx, hf0, hs⟩ := hM0
  refine zz_iconst (v := 0) C dX2_ifFrost_0 (by decide) ?_
  refine zz_istore_n C dX2_ifFrost_1 (by decide) ?_
  refine zz_iconst (v := 0) C dX2_ifFrost_2 (by decide) ?_
  refine zz_istore_n C dX2_ifFrost_3 (by decide) ?_
  have L4 : ∀ (n : Nat) (i : Nat), i ≤ nb → nb + 1 ≤ i + n → zz_V D b0 3 p l e ({ frames := 3, cells := 0, slots := 0, locals := 64 } : Jvm.Room) s m ([.ref x] : List Value).toArray below meth c (MQ below (zz_Q D b0 (fun v h' => v = some (.int (qa_or (qa_wc a) nb)) ∧ h' = h)) ([.ref x] : List Value).toArray s 0 0 (fun q => b0 ≤ q)) 0 0 h [(0, .ref x), (1, .int (qa_or (qa_wc a) i)), (2, .int (nI i))] 4 [] := by
    intro n
    induction n with
    | zero =>
      intro i h1 h2
      exact absurd h2 (by omega)
    | succ n ih =>
      intro i h1 h2
      refine zz_iload_n C dX2_ifFrost_4 rfl ?_
      first | refine zz_aload_n C dX2_ifFrost_5 rfl ?_ | refine zz_aload_nN C dX2_ifFrost_5 rfl ?_
      refine zz_get C rfl (by first | assumption | exact zz_us | exact zz_lk1 (by assumption) (by assumption) | exact zz_lk3 (hd _ _ (by decide) (by decide) (by decide)) (by assumption) | exact zz_uf (by assumption) (by assumption) | (simp only [zz_up]; simp_all; done)) rfl in_X2 0 rfl q1230 (fun _ h => h) (by first | rfl | assumption) dX2_ifFrost_6 ?_
      refine zz_iconst (v := nI 5) C dX2_ifFrost_9 (by decide) ?_
      refine zz_iald C (by first | assumption | exact zz_us | exact zz_lk1 (by assumption) (by assumption) | exact zz_lk3 (hd _ _ (by decide) (by decide) (by decide)) (by assumption) | exact zz_uf (by assumption) (by assumption) | (simp only [zz_up]; simp_all; done)) rfl (by omega) (by omega) dX2_ifFrost_10 ?_
      refine zz_icmp_ge (tgt := 38) C dX2_ifFrost_11 (by decide) (fun c11 => ?_) (fun c11 => ?_)
      · have hi2 : nb ≤ i := (nI_leI (by omega) (by omega)).mp (by rw [← h5]; exact c11)
        obtain rfl : i = nb := by omega
        refine zz_iload_n C dX2_ifFrost_38 rfl ?_
        refine zz_iret C dX2_ifFrost_39 rfl rfl ?_
        exact ⟨rfl, rfl⟩
      · have hi2 : i < nb := Nat.not_le.mp (fun q => c11 (by rw [h5]; exact nI_le q (by omega)))
        refine zz_iload_n C dX2_ifFrost_14 rfl ?_
        first | refine zz_aload_n C dX2_ifFrost_15 rfl ?_ | refine zz_aload_nN C dX2_ifFrost_15 rfl ?_
        refine zz_iload_n C dX2_ifFrost_16 rfl ?_
        refine zz_callV C zy_X2_wouldCrack (ct_X2_wouldCrack i rfl (by omega) hM) rfl q1395 (by first | assumption | exact zz_us | exact zz_lk1 (by assumption) (by assumption) | exact zz_lk3 (hd _ _ (by decide) (by decide) (by decide)) (by assumption) | exact zz_uf (by assumption) (by assumption) | (simp only [zz_up]; simp_all; done)) rfl rfl rfl rfl rfl rfl dX2_ifFrost_17 ⟨Nat.le_of_ble_eq_true rfl, Nat.le_of_ble_eq_true rfl⟩ (fun v hz hp => ?_)
        obtain ⟨rfl, ez⟩ := hp
        obtain rfl := ez.symm
        first | refine zz_ifb_eq (tgt := 29) C dX2_ifFrost_20 (by decide) (fun c20 => ?_) (fun c20 => ?_) | refine zz_if_eq (tgt := 29) C dX2_ifFrost_20 (by decide) (fun c20 => ?_) (fun c20 => ?_)
        · refine zz_iconst (v := 0) C dX2_ifFrost_29 (by decide) ?_
          refine zz_ior C dX2_ifFrost_30 ?_
          refine zz_istore_n C dX2_ifFrost_31 (by decide) ?_
          refine zz_iinc C dX2_ifFrost_32 rfl (by first | exact nI_1 _ | exact (rfl : _ + Int32.ofInt 1 = _ + 1)) (by decide) ?_
          refine zz_goto (tgt := 4) C dX2_ifFrost_35 (by decide) ?_
          refine zz_loc2 (ih (i + 1) (by omega) (by omega)) ⟨rfl, ?_, rfl, trivial⟩
          clear ih
          show some _ = some _
          first | rfl | (simp_all [qa_or, zz_b, -Int32.not_le, -Int32.not_lt]; done)
        · refine zz_iconst (v := 1) C dX2_ifFrost_23 (by decide) ?_
          refine zz_iload_n C dX2_ifFrost_24 rfl ?_
          refine zz_ishl C dX2_ifFrost_25 ?_
          refine zz_goto (tgt := 30) C dX2_ifFrost_26 (by decide) ?_
          refine zz_ior C dX2_ifFrost_30 ?_
          refine zz_istore_n C dX2_ifFrost_31 (by decide) ?_
          refine zz_iinc C dX2_ifFrost_32 rfl (by first | exact nI_1 _ | exact (rfl : _ + Int32.ofInt 1 = _ + 1)) (by decide) ?_
          refine zz_goto (tgt := 4) C dX2_ifFrost_35 (by decide) ?_
          refine zz_loc2 (ih (i + 1) (by omega) (by omega)) ⟨rfl, ?_, rfl, trivial⟩
          clear ih
          show some _ = some _
          first | rfl | (simp_all [qa_or, zz_b, -Int32.not_le, -Int32.not_lt]; done)
  exact zz_loc2 (L4 (nb + 1) 0 (by omega) (by omega)) ⟨rfl, rfl, rfl, trivial⟩

