/-! the quarry: what is read, second part -/
theorem ct_X1_cracked {l : Launch} {D : va_G} {b0 : Nat} {h : zz_H} {q : Nat} {ow : Nat → Nat × Nat} {ad sz : Nat → Nat} {a : Nat → Int32} {nb no : Nat} (hwf : wfn a nb no) (hQ : qu_I D h ow q ad sz a nb no)  : zz_Ct l D b0 yX1_cracked cX1_cracked 4 (some .int) 3 61 1 4 [.ref q] h (fun v h' => v = some (.int (qa_or (qa_setf a true) nb)) ∧ h' = h) := by
  refine zz_Ct.of zy_X1_cracked.1 rfl ?_
  intro p e s m below meth c C
  have hnb := hwf.1
  obtain ⟨mcL, ar, cap, f, hLx⟩ := hQ.gL
  have hq := hQ.gq
  have hL := hLx.1
  have hel : ∀ i : Nat, i < nb → f i = some (ad (10 + i)) := hLx.2.2.2.2.2
  have hnc : nb ≤ cap := hLx.2.2.1
  have hcap : cap ≤ 100 := hLx.2.2.2.1
  refine zz_iconst (v := 0) C dX1_cracked_0 (by decide) ?_
  refine zz_istore_n C dX1_cracked_1 (by decide) ?_
  first | refine zz_aload_n C dX1_cracked_2 rfl ?_ | refine zz_aload_nN C dX1_cracked_2 rfl ?_
  refine zz_get C rfl hq rfl in_X1 5 rfl q183 (fun _ h => h) (by first | rfl | assumption) dX1_cracked_3 ?_
  refine zz_callF (x2 := ⟨"java/util/List", "iterator", "()Ljava/util/Iterator;"⟩) C zy_J2_iterator (ct_J2_iterator (by assumption)) rfl q333 q336 q338 nif_2 nid_2 hL rfl rfl rfl rfl rfl rfl dX1_cracked_6 ⟨Nat.le_of_ble_eq_true rfl, Nat.le_of_ble_eq_true rfl⟩ (fun v hz hp => ?_)
  obtain ⟨it, rfl, hit, hitb, ez⟩ := hp
  obtain rfl := ez.symm
  refine zz_astore_n C dX1_cracked_11 (by decide) ?_
  have L12 : ∀ (n : Nat) (i : Nat) (lr : Int32), i ≤ nb → nb + 1 ≤ i + n → zz_V D b0 4 p l e ({ frames := 3, cells := 1, slots := 4, locals := 61 } : Jvm.Room) s m ([.ref q] : List Value).toArray below meth c (MQ below (zz_Q D b0 (fun v h' => v = some (.int (qa_or (qa_setf a true) nb)) ∧ h' = h)) ([.ref q] : List Value).toArray s 1 4 (fun q => b0 ≤ q)) 1 4 (zz_up h it (it_F i lr mcL (ad 6))) [(0, .ref q), (1, .int (qa_or (qa_setf a true) i)), (2, .ref it)] 12 [] := by
    intro n
    induction n with
    | zero =>
      intro i lr h1 h2
      exact absurd h2 (by omega)
    | succ n ih =>
      intro i lr h1 h2
      first | refine zz_aload_n C dX1_cracked_12 rfl ?_ | refine zz_aload_nN C dX1_cracked_12 rfl ?_
      refine zz_callF (x2 := ⟨"java/util/Iterator", "hasNext", "()Z"⟩) C zy_J9_hasNext (ct_J9_hasNext (by omega) (by omega) zz_us (zz_uf hL hit)) rfl q361 q365 q367 nif_6 nid_6 zz_us rfl rfl rfl rfl rfl rfl dX1_cracked_13 ⟨Nat.le_of_ble_eq_true rfl, Nat.le_of_ble_eq_true rfl⟩ (fun v hz hp => ?_)
      obtain ⟨rfl, ez⟩ := hp
      obtain rfl := ez.symm
      first | refine zz_ifb_eq (tgt := 62) C dX1_cracked_18 (by decide) (fun c18 => ?_) (fun c18 => ?_) | refine zz_if_eq (tgt := 62) C dX1_cracked_18 (by decide) (fun c18 => ?_) (fun c18 => ?_)
      · obtain rfl : i = nb := by
          have := of_decide_eq_false c18
          omega
        refine zz_wk (h' := h) (fun x e hx => zz_uf hx hit) ?_
        refine zz_iload_n C dX1_cracked_62 rfl ?_
        refine zz_iret C dX1_cracked_63 rfl rfl ?_
        exact ⟨rfl, rfl⟩
      · have hi2 : i < nb := of_decide_eq_true c18
        first | refine zz_aload_n C dX1_cracked_21 rfl ?_ | refine zz_aload_nN C dX1_cracked_21 rfl ?_
        refine zz_callF (x2 := ⟨"java/util/Iterator", "next", "()Ljava/lang/Object;"⟩) C zy_J9_next (ct_J9_next hi2 hnc (hel i hi2) zz_us (zz_uf hL hit) (zz_uf (hLx.T hi2) hit) (by omega)) rfl q371 q374 q376 nif_7 nid_7 zz_us rfl rfl rfl rfl rfl rfl dX1_cracked_22 ⟨Nat.le_of_ble_eq_true rfl, Nat.le_of_ble_eq_true rfl⟩ (fun v hz hp => ?_)
        obtain ⟨rfl, ez⟩ := hp
        rw [zz_upup] at ez
        obtain rfl := ez.symm
        have hbi : (zz_up h it (it_F (i + 1) (nI i) mcL (ad 6))) (ad (10 + i)) = some (bl_F a i (sz i)) := zz_uf (hQ.gb hi2) hit
        have hzi : (zz_up h it (it_F (i + 1) (nI i) mcL (ad 6))) (sz i) = some (bs_F a i) := zz_uf (hQ.gz hi2) hit
        refine zz_cast C rfl hbi rfl q383 (by first | exact Or.inl rfl | exact Or.inr (by decide +kernel)) dX1_cracked_27 ?_
        refine zz_astore_n C dX1_cracked_30 (by decide) ?_
        refine zz_iload_n C dX1_cracked_31 rfl ?_
        refine zz_joinI (pcJ := 57) (if qa_setf a true i = true then (1 : Int32) <<< (nI i &&& 31) else 0) ?_ ?_
        · rintro z57 rfl
          refine zz_ior C dX1_cracked_57 ?_
          refine zz_istore_n C dX1_cracked_58 (by decide) ?_
          refine zz_goto (tgt := 12) C dX1_cracked_59 (by decide) ?_
          exact zz_loc2 (ih (i + 1) (nI i) (by omega) (by omega)) ⟨rfl, rfl, rfl, trivial⟩
        · intro J57
          first | refine zz_aload_n C dX1_cracked_32 rfl ?_ | refine zz_aload_nN C dX1_cracked_32 rfl ?_
          refine zz_getN C rfl hbi rfl in_X3 8 rfl (nst_31 C) (fun _ h => h) (by first | rfl | assumption) dX1_cracked_33 ?_
          refine zz_if_eq (tgt := 56) C dX1_cracked_36 (by decide) (fun c36 => ?_) (fun c36 => ?_)
          · refine zz_iconst (v := 0) C dX1_cracked_56 (by decide) ?_
            exact J57 _ (by first | exact zz_ift (by rw [qa_setf, if_pos rfl, (hwf.c6 hi2).resolve_left c36, decide_eq_false c44]; rfl) | exact zz_iff (by rw [qa_setf, if_pos rfl, c36]; rfl) | exact zz_iff (by rw [qa_setf, if_pos rfl, c44, Bool.and_comm]; rfl))
          · first | refine zz_aload_n C dX1_cracked_39 rfl ?_ | refine zz_aload_nN C dX1_cracked_39 rfl ?_
            refine zz_getN C rfl hbi rfl in_X3 4 rfl (nst_23 C) (fun _ h => h) (by first | rfl | assumption) dX1_cracked_40 ?_
            refine zz_iconst (v := 4) C dX1_cracked_43 (by decide) ?_
            refine zz_icmp_eq (tgt := 56) C dX1_cracked_44 (by decide) (fun c44 => ?_) (fun c44 => ?_)
            · refine zz_iconst (v := 0) C dX1_cracked_56 (by decide) ?_
              exact J57 _ (by first | exact zz_ift (by rw [qa_setf, if_pos rfl, (hwf.c6 hi2).resolve_left c36, decide_eq_false c44]; rfl) | exact zz_iff (by rw [qa_setf, if_pos rfl, c36]; rfl) | exact zz_iff (by rw [qa_setf, if_pos rfl, c44, Bool.and_comm]; rfl))
            · refine zz_iconst (v := 1) C dX1_cracked_47 (by decide) ?_
              first | refine zz_aload_n C dX1_cracked_48 rfl ?_ | refine zz_aload_nN C dX1_cracked_48 rfl ?_
              refine zz_getN C rfl hbi rfl in_X3 0 rfl (nst_16 C) (fun _ h => h) (by first | rfl | assumption) dX1_cracked_49 ?_
              refine zz_ishl C dX1_cracked_52 ?_
              refine zz_goto (tgt := 57) C dX1_cracked_53 (by decide) ?_
              exact J57 _ (by first | exact zz_ift (by rw [qa_setf, if_pos rfl, (hwf.c6 hi2).resolve_left c36, decide_eq_false c44]; rfl) | exact zz_iff (by rw [qa_setf, if_pos rfl, c36]; rfl) | exact zz_iff (by rw [qa_setf, if_pos rfl, c44, Bool.and_comm]; rfl))
  exact zz_loc2 (L12 (nb + 1) 0 (-1) (by omega) (by omega)) ⟨rfl, rfl, rfl, trivial⟩

theorem ct_X1_uncut {l : Launch} {D : va_G} {b0 : Nat} {h : zz_H} {q : Nat} {ow : Nat → Nat × Nat} {ad sz : Nat → Nat} {a : Nat → Int32} {nb no : Nat} (hwf : wfn a nb no) (hQ : qu_I D h ow q ad sz a nb no) {c1 : Bool}  : zz_Ct l D b0 yX1_uncut cX1_uncut 5 (some .int) 3 61 1 4 [.ref q, .int (zz_b c1)] h (fun v h' => v = some (.int (qa_sum (qa_ncf a c1) nb)) ∧ h' = h) := by
  refine zz_Ct.of zy_X1_uncut.1 rfl ?_
  intro p e s m below meth c C
  have hnb := hwf.1
  obtain ⟨mcL, ar, cap, f, hLx⟩ := hQ.gL
  have hq := hQ.gq
  have hL := hLx.1
  have hel : ∀ i : Nat, i < nb → f i = some (ad (10 + i)) := hLx.2.2.2.2.2
  have hnc : nb ≤ cap := hLx.2.2.1
  have hcap : cap ≤ 100 := hLx.2.2.2.1
  refine zz_iconst (v := 0) C dX1_uncut_0 (by decide) ?_
  refine zz_istore_n C dX1_uncut_1 (by decide) ?_
  first | refine zz_aload_n C dX1_uncut_2 rfl ?_ | refine zz_aload_nN C dX1_uncut_2 rfl ?_
  refine zz_get C rfl hq rfl in_X1 5 rfl q183 (fun _ h => h) (by first | rfl | assumption) dX1_uncut_3 ?_
  refine zz_callF (x2 := ⟨"java/util/List", "iterator", "()Ljava/util/Iterator;"⟩) C zy_J2_iterator (ct_J2_iterator (by assumption)) rfl q333 q336 q338 nif_2 nid_2 hL rfl rfl rfl rfl rfl rfl dX1_uncut_6 ⟨Nat.le_of_ble_eq_true rfl, Nat.le_of_ble_eq_true rfl⟩ (fun v hz hp => ?_)
  obtain ⟨it, rfl, hit, hitb, ez⟩ := hp
  obtain rfl := ez.symm
  refine zz_astore_n C dX1_uncut_11 (by decide) ?_
  have L12 : ∀ (n : Nat) (i : Nat) (lr : Int32), i ≤ nb → nb + 1 ≤ i + n → zz_V D b0 5 p l e ({ frames := 3, cells := 1, slots := 4, locals := 61 } : Jvm.Room) s m ([.ref q, .int (zz_b c1)] : List Value).toArray below meth c (MQ below (zz_Q D b0 (fun v h' => v = some (.int (qa_sum (qa_ncf a c1) nb)) ∧ h' = h)) ([.ref q, .int (zz_b c1)] : List Value).toArray s 1 4 (fun q => b0 ≤ q)) 1 4 (zz_up h it (it_F i lr mcL (ad 6))) [(0, .ref q), (1, .int (zz_b c1)), (2, .int (qa_sum (qa_ncf a c1) i)), (3, .ref it)] 12 [] := by
    intro n
    induction n with
    | zero =>
      intro i lr h1 h2
      exact absurd h2 (by omega)
    | succ n ih =>
      intro i lr h1 h2
      first | refine zz_aload_n C dX1_uncut_12 rfl ?_ | refine zz_aload_nN C dX1_uncut_12 rfl ?_
      refine zz_callF (x2 := ⟨"java/util/Iterator", "hasNext", "()Z"⟩) C zy_J9_hasNext (ct_J9_hasNext (by omega) (by omega) zz_us (zz_uf hL hit)) rfl q361 q365 q367 nif_6 nid_6 zz_us rfl rfl rfl rfl rfl rfl dX1_uncut_13 ⟨Nat.le_of_ble_eq_true rfl, Nat.le_of_ble_eq_true rfl⟩ (fun v hz hp => ?_)
      obtain ⟨rfl, ez⟩ := hp
      obtain rfl := ez.symm
      first | refine zz_ifb_eq (tgt := 64) C dX1_uncut_18 (by decide) (fun c18 => ?_) (fun c18 => ?_) | refine zz_if_eq (tgt := 64) C dX1_uncut_18 (by decide) (fun c18 => ?_) (fun c18 => ?_)
      · obtain rfl : i = nb := by
          have := of_decide_eq_false c18
          omega
        refine zz_wk (h' := h) (fun x e hx => zz_uf hx hit) ?_
        refine zz_iload_n C dX1_uncut_64 rfl ?_
        refine zz_iret C dX1_uncut_65 rfl rfl ?_
        exact ⟨rfl, rfl⟩
      · have hi2 : i < nb := of_decide_eq_true c18
        first | refine zz_aload_n C dX1_uncut_21 rfl ?_ | refine zz_aload_nN C dX1_uncut_21 rfl ?_
        refine zz_callF (x2 := ⟨"java/util/Iterator", "next", "()Ljava/lang/Object;"⟩) C zy_J9_next (ct_J9_next hi2 hnc (hel i hi2) zz_us (zz_uf hL hit) (zz_uf (hLx.T hi2) hit) (by omega)) rfl q371 q374 q376 nif_7 nid_7 zz_us rfl rfl rfl rfl rfl rfl dX1_uncut_22 ⟨Nat.le_of_ble_eq_true rfl, Nat.le_of_ble_eq_true rfl⟩ (fun v hz hp => ?_)
        obtain ⟨rfl, ez⟩ := hp
        rw [zz_upup] at ez
        obtain rfl := ez.symm
        have hbi : (zz_up h it (it_F (i + 1) (nI i) mcL (ad 6))) (ad (10 + i)) = some (bl_F a i (sz i)) := zz_uf (hQ.gb hi2) hit
        have hzi : (zz_up h it (it_F (i + 1) (nI i) mcL (ad 6))) (sz i) = some (bs_F a i) := zz_uf (hQ.gz hi2) hit
        refine zz_cast C rfl hbi rfl q383 (by first | exact Or.inl rfl | exact Or.inr (by decide +kernel)) dX1_uncut_27 ?_
        refine zz_astore C dX1_uncut_30 (by decide) ?_
        refine zz_iload_n C dX1_uncut_32 rfl ?_
        refine zz_joinI (pcJ := 59) (qa_ncf a c1 i) ?_ ?_
        · rintro z59 rfl
          refine zz_iadd C dX1_uncut_59 ?_
          refine zz_istore_n C dX1_uncut_60 (by decide) ?_
          refine zz_goto (tgt := 12) C dX1_uncut_61 (by decide) ?_
          exact zz_loc2 (ih (i + 1) (nI i) (by omega) (by omega)) ⟨rfl, rfl, rfl, rfl, trivial⟩
        · intro J59
          first | refine zz_aload C dX1_uncut_33 rfl ?_ | refine zz_aloadN C dX1_uncut_33 rfl ?_
          refine zz_getN C rfl hbi rfl in_X3 4 rfl (nst_23 C) (fun _ h => h) (by first | rfl | assumption) dX1_uncut_35 ?_
          refine zz_iconst (v := 4) C dX1_uncut_38 (by decide) ?_
          refine zz_icmp_ne (tgt := 46) C dX1_uncut_39 (by decide) (fun c39 => ?_) (fun c39 => ?_)
          · refine zz_iload_n C dX1_uncut_46 rfl ?_
            first | refine zz_ifb_eq (tgt := 58) C dX1_uncut_47 (by decide) (fun c47 => ?_) (fun c47 => ?_) | refine zz_if_eq (tgt := 58) C dX1_uncut_47 (by decide) (fun c47 => ?_) (fun c47 => ?_)
            · refine zz_iconst (v := 1) C dX1_uncut_58 (by decide) ?_
              exact J59 _ (by unfold qa_ncf; first | exact (if_pos c39).symm | (rw [if_neg c39, c47]; rfl))
            · first | refine zz_aload C dX1_uncut_50 rfl ?_ | refine zz_aloadN C dX1_uncut_50 rfl ?_
              refine zz_callV C zy_X3_weight (ct_X3_weight hbi hzi) rfl q571 hbi rfl rfl rfl rfl rfl rfl dX1_uncut_52 ⟨Nat.le_of_ble_eq_true rfl, Nat.le_of_ble_eq_true rfl⟩ (fun v hz hp => ?_)
              obtain ⟨rfl, ez⟩ := hp
              obtain rfl := ez.symm
              refine zz_goto (tgt := 59) C dX1_uncut_55 (by decide) ?_
              exact J59 _ (by unfold qa_ncf; first | exact (if_pos c39).symm | (rw [if_neg c39, c47]; rfl))
          · refine zz_iconst (v := 0) C dX1_uncut_42 (by decide) ?_
            refine zz_goto (tgt := 59) C dX1_uncut_43 (by decide) ?_
            exact J59 _ (by unfold qa_ncf; first | exact (if_pos c39).symm | (rw [if_neg c39, c47]; rfl))
  exact zz_loc2 (L12 (nb + 1) 0 (-1) (by omega) (by omega)) ⟨rfl, rfl, rfl, rfl, trivial⟩

theorem ct_X1_fitting {l : Launch} {D : va_G} {b0 : Nat} {h : zz_H} {q : Nat} {ow : Nat → Nat × Nat} {ad sz : Nat → Nat} {a : Nat → Int32} {nb no : Nat} (hwf : wfn a nb no) (hQ : qu_I D h ow q ad sz a nb no) {o : Nat} (ho : o < no)  : zz_Ct l D b0 yX1_fitting cX1_fitting 5 (some .int) 6 134 30 100 [.ref q, .ref (ad (40 + o))] h (fun v h' => v = some (.int (qa_or (qa_can a o) nb)) ∧ h' = h) := by
  refine zz_Ct.of zy_X1_fitting.1 rfl ?_
  intro p e s m below meth c C
  have hnb := hwf.1
  obtain ⟨mcL, ar, cap, f, hLx⟩ := hQ.gL
  have hq := hQ.gq
  have hL := hLx.1
  have hel : ∀ i : Nat, i < nb → f i = some (ad (10 + i)) := hLx.2.2.2.2.2
  have hnc : nb ≤ cap := hLx.2.2.1
  have hcap : cap ≤ 100 := hLx.2.2.2.1
  refine zz_iconst (v := 0) C dX1_fitting_0 (by decide) ?_
  refine zz_istore_n C dX1_fitting_1 (by decide) ?_
  first | refine zz_aload_n C dX1_fitting_2 rfl ?_ | refine zz_aload_nN C dX1_fitting_2 rfl ?_
  refine zz_get C rfl hq rfl in_X1 5 rfl q183 (fun _ h => h) (by first | rfl | assumption) dX1_fitting_3 ?_
  refine zz_callF (x2 := ⟨"java/util/List", "iterator", "()Ljava/util/Iterator;"⟩) C zy_J2_iterator (ct_J2_iterator (by assumption)) rfl q333 q336 q338 nif_2 nid_2 hL rfl rfl rfl rfl rfl rfl dX1_fitting_6 ⟨Nat.le_of_ble_eq_true rfl, Nat.le_of_ble_eq_true rfl⟩ (fun v hz hp => ?_)
  obtain ⟨it, rfl, hit, hitb, ez⟩ := hp
  obtain rfl := ez.symm
  refine zz_astore_n C dX1_fitting_11 (by decide) ?_
  have L12 : ∀ (n : Nat) (i : Nat) (lr : Int32), i ≤ nb → nb + 1 ≤ i + n → zz_V D b0 5 p l e ({ frames := 6, cells := 30, slots := 100, locals := 134 } : Jvm.Room) s m ([.ref q, .ref (ad (40 + o))] : List Value).toArray below meth c (MQ below (zz_Q D b0 (fun v h' => v = some (.int (qa_or (qa_can a o) nb)) ∧ h' = h)) ([.ref q, .ref (ad (40 + o))] : List Value).toArray s 30 100 (fun q => b0 ≤ q)) (1 + i) (4 + 3 * i) (zz_up h it (it_F i lr mcL (ad 6))) [(0, .ref q), (1, .ref (ad (40 + o))), (2, .int (qa_or (qa_can a o) i)), (3, .ref it)] 12 [] := by
    intro n
    induction n with
    | zero =>
      intro i lr h1 h2
      exact absurd h2 (by omega)
    | succ n ih =>
      intro i lr h1 h2
      first | refine zz_aload_n C dX1_fitting_12 rfl ?_ | refine zz_aload_nN C dX1_fitting_12 rfl ?_
      refine zz_callF (x2 := ⟨"java/util/Iterator", "hasNext", "()Z"⟩) C zy_J9_hasNext (ct_J9_hasNext (by omega) (by omega) zz_us (zz_uf hL hit)) rfl q361 q365 q367 nif_6 nid_6 zz_us rfl rfl rfl rfl rfl rfl dX1_fitting_13 ⟨by show (_ : Nat) ≤ 30; omega, by show (_ : Nat) ≤ 100; omega⟩ (fun v hz hp => ?_)
      obtain ⟨rfl, ez⟩ := hp
      obtain rfl := ez.symm
      first | refine zz_ifb_eq (tgt := 66) C dX1_fitting_18 (by decide) (fun c18 => ?_) (fun c18 => ?_) | refine zz_if_eq (tgt := 66) C dX1_fitting_18 (by decide) (fun c18 => ?_) (fun c18 => ?_)
      · obtain rfl : i = nb := by
          have := of_decide_eq_false c18
          omega
        refine zz_wk (h' := h) (fun x e hx => zz_uf hx hit) ?_
        refine zz_iload_n C dX1_fitting_66 rfl ?_
        refine zz_iret C dX1_fitting_67 (by first | rfl | exact Nat.ble_eq.mpr (by omega)) (by first | rfl | exact Nat.ble_eq.mpr (by omega)) ?_
        exact ⟨rfl, rfl⟩
      · have hi2 : i < nb := of_decide_eq_true c18
        first | refine zz_aload_n C dX1_fitting_21 rfl ?_ | refine zz_aload_nN C dX1_fitting_21 rfl ?_
        refine zz_callF (x2 := ⟨"java/util/Iterator", "next", "()Ljava/lang/Object;"⟩) C zy_J9_next (ct_J9_next hi2 hnc (hel i hi2) zz_us (zz_uf hL hit) (zz_uf (hLx.T hi2) hit) (by omega)) rfl q371 q374 q376 nif_7 nid_7 zz_us rfl rfl rfl rfl rfl rfl dX1_fitting_22 ⟨by show (_ : Nat) ≤ 30; omega, by show (_ : Nat) ≤ 100; omega⟩ (fun v hz hp => ?_)
        obtain ⟨rfl, ez⟩ := hp
        rw [zz_upup] at ez
        obtain rfl := ez.symm
        have hbi : (zz_up h it (it_F (i + 1) (nI i) mcL (ad 6))) (ad (10 + i)) = some (bl_F a i (sz i)) := zz_uf (hQ.gb hi2) hit
        have hzi : (zz_up h it (it_F (i + 1) (nI i) mcL (ad 6))) (sz i) = some (bs_F a i) := zz_uf (hQ.gz hi2) hit
        refine zz_cast C rfl hbi rfl q383 (by first | exact Or.inl rfl | exact Or.inr (by decide +kernel)) dX1_fitting_27 ?_
        refine zz_astore C dX1_fitting_30 (by decide) ?_
        refine zz_iload_n C dX1_fitting_32 rfl ?_
        refine zz_joinW (pcJ := 61) (cs' := 1 + (i + 1)) (ss' := 4 + 3 * (i + 1)) (if qa_can a o i = true then (1 : Int32) <<< (nI i &&& 31) else 0) ?_ ?_
        · rintro z61 rfl
          refine zz_ior C dX1_fitting_61 ?_
          refine zz_istore_n C dX1_fitting_62 (by decide) ?_
          refine zz_goto (tgt := 12) C dX1_fitting_63 (by decide) ?_
          refine zz_widen (cs' := 1 + (i + 1)) (ss' := 4 + 3 * (i + 1)) (by omega) (by omega) ?_
          exact zz_loc2 (ih (i + 1) (nI i) (by omega) (by omega)) ⟨rfl, rfl, rfl, rfl, trivial⟩
        · intro J61
          first | refine zz_aload_n C dX1_fitting_33 rfl ?_ | refine zz_aload_nN C dX1_fitting_33 rfl ?_
          refine zz_getN C rfl (zz_uf (hQ.go ho) hit) rfl in_X4 1 rfl (nst_35 C) (fun _ h => h) (by first | rfl | assumption) dX1_fitting_34 ?_
          refine zz_if_ne (tgt := 60) C dX1_fitting_37 (by decide) (fun c37 => ?_) (fun c37 => ?_)
          · refine zz_iconst (v := 0) C dX1_fitting_60 (by decide) ?_
            exact zz_widen (by omega) (by omega) (J61 _ (by first | exact zz_ift (by rw [qa_can, c37, Bool.and_assoc, qa_ov_ge hwf o i c47]; rfl) | exact zz_iff (by rw [qa_can, decide_eq_false c37]; rfl) | exact zz_iff (by rw [qa_can, Bool.and_assoc, qa_ov_lt hwf o i c47, Bool.and_false])))
          · first | refine zz_aload_n C dX1_fitting_40 rfl ?_ | refine zz_aload_nN C dX1_fitting_40 rfl ?_
            first | refine zz_aload_n C dX1_fitting_41 rfl ?_ | refine zz_aload_nN C dX1_fitting_41 rfl ?_
            first | refine zz_aload C dX1_fitting_42 rfl ?_ | refine zz_aloadN C dX1_fitting_42 rfl ?_
            refine zz_callV C zy_X1_over (ct_X1_over hwf (hQ.nw hit) ho hi2) rfl q833 (zz_uf hq hit) rfl rfl rfl rfl rfl rfl dX1_fitting_44 ⟨by show (_ : Nat) ≤ 30; omega, by show (_ : Nat) ≤ 100; omega⟩ (fun v hz hp => ?_)
            obtain ⟨rfl, ez⟩ := hp
            obtain rfl := ez.symm
            refine zz_if_lt (tgt := 60) C dX1_fitting_47 (by decide) (fun c47 => ?_) (fun c47 => ?_)
            · refine zz_iconst (v := 0) C dX1_fitting_60 (by decide) ?_
              exact zz_widen (by omega) (by omega) (J61 _ (by first | exact zz_ift (by rw [qa_can, c37, Bool.and_assoc, qa_ov_ge hwf o i c47]; rfl) | exact zz_iff (by rw [qa_can, decide_eq_false c37]; rfl) | exact zz_iff (by rw [qa_can, Bool.and_assoc, qa_ov_lt hwf o i c47, Bool.and_false])))
            · refine zz_iconst (v := 1) C dX1_fitting_50 (by decide) ?_
              first | refine zz_aload C dX1_fitting_51 rfl ?_ | refine zz_aloadN C dX1_fitting_51 rfl ?_
              refine zz_getN C rfl hbi rfl in_X3 0 rfl (nst_16 C) (fun _ h => h) (by first | rfl | assumption) dX1_fitting_53 ?_
              refine zz_ishl C dX1_fitting_56 ?_
              refine zz_goto (tgt := 61) C dX1_fitting_57 (by decide) ?_
              exact zz_widen (by omega) (by omega) (J61 _ (by first | exact zz_ift (by rw [qa_can, c37, Bool.and_assoc, qa_ov_ge hwf o i c47]; rfl) | exact zz_iff (by rw [qa_can, decide_eq_false c37]; rfl) | exact zz_iff (by rw [qa_can, Bool.and_assoc, qa_ov_lt hwf o i c47, Bool.and_false])))
  exact zz_loc2 (L12 (nb + 1) 0 (-1) (by omega) (by omega)) ⟨rfl, rfl, rfl, rfl, trivial⟩

theorem ct_X1_bestBlock {l : Launch} {D : va_G} {b0 : Nat} {h : zz_H} {q : Nat} {ow : Nat → Nat × Nat} {ad sz : Nat → Nat} {a : Nat → Int32} {nb no : Nat} (hwf : wfn a nb no) (hQ : qu_I D h ow q ad sz a nb no) {o : Nat} (ho : o < no)  : zz_Ct l D b0 yX1_bestBlock cX1_bestBlock 8 (some .int) 6 134 30 100 [.ref q, .ref (ad (40 + o))] h (fun v h' => v = some (.int ((ca_bb a o nb).1)) ∧ h' = h) := by
  refine zz_Ct.of zy_X1_bestBlock.1 rfl ?_
  intro p e s m below meth c C
  have hnb := hwf.1
  obtain ⟨mcL, ar, cap, f, hLx⟩ := hQ.gL
  have hq := hQ.gq
  have hL := hLx.1
  have hel : ∀ i : Nat, i < nb → f i = some (ad (10 + i)) := hLx.2.2.2.2.2
  have hnc : nb ≤ cap := hLx.2.2.1
  have hcap : cap ≤ 100 := hLx.2.2.2.1
  refine zz_bipush (v := (-6)) C dX1_bestBlock_0 (by decide) ?_
  refine zz_istore_n C dX1_bestBlock_2 (by decide) ?_
  refine zz_iconst (v := 0) C dX1_bestBlock_3 (by decide) ?_
  refine zz_istore_n C dX1_bestBlock_4 (by decide) ?_
  first | refine zz_aload_n C dX1_bestBlock_5 rfl ?_ | refine zz_aload_nN C dX1_bestBlock_5 rfl ?_
  refine zz_get C rfl hq rfl in_X1 5 rfl q183 (fun _ h => h) (by first | rfl | assumption) dX1_bestBlock_6 ?_
  refine zz_callF (x2 := ⟨"java/util/List", "iterator", "()Ljava/util/Iterator;"⟩) C zy_J2_iterator (ct_J2_iterator (by assumption)) rfl q333 q336 q338 nif_2 nid_2 hL rfl rfl rfl rfl rfl rfl dX1_bestBlock_9 ⟨Nat.le_of_ble_eq_true rfl, Nat.le_of_ble_eq_true rfl⟩ (fun v hz hp => ?_)
  obtain ⟨it, rfl, hit, hitb, ez⟩ := hp
  obtain rfl := ez.symm
  refine zz_astore C dX1_bestBlock_14 (by decide) ?_
  have L16 : ∀ (n : Nat) (i : Nat) (lr : Int32), i ≤ nb → nb + 1 ≤ i + n → zz_V D b0 8 p l e ({ frames := 6, cells := 30, slots := 100, locals := 134 } : Jvm.Room) s m ([.ref q, .ref (ad (40 + o))] : List Value).toArray below meth c (MQ below (zz_Q D b0 (fun v h' => v = some (.int ((ca_bb a o nb).1)) ∧ h' = h)) ([.ref q, .ref (ad (40 + o))] : List Value).toArray s 30 100 (fun q => b0 ≤ q)) (1 + i) (4 + 3 * i) (zz_up h it (it_F i lr mcL (ad 6))) [(0, .ref q), (1, .ref (ad (40 + o))), (2, .int (ca_bb a o i).1), (3, .int (ca_bb a o i).2), (4, .ref it)] 16 [] := by
    intro n
    induction n with
    | zero =>
      intro i lr h1 h2
      exact absurd h2 (by omega)
    | succ n ih =>
      intro i lr h1 h2
      first | refine zz_aload C dX1_bestBlock_16 rfl ?_ | refine zz_aloadN C dX1_bestBlock_16 rfl ?_
      refine zz_callF (x2 := ⟨"java/util/Iterator", "hasNext", "()Z"⟩) C zy_J9_hasNext (ct_J9_hasNext (by omega) (by omega) zz_us (zz_uf hL hit)) rfl q361 q365 q367 nif_6 nid_6 zz_us rfl rfl rfl rfl rfl rfl dX1_bestBlock_18 ⟨by show (_ : Nat) ≤ 30; omega, by show (_ : Nat) ≤ 100; omega⟩ (fun v hz hp => ?_)
      obtain ⟨rfl, ez⟩ := hp
      obtain rfl := ez.symm
      first | refine zz_ifb_eq (tgt := 99) C dX1_bestBlock_23 (by decide) (fun c23 => ?_) (fun c23 => ?_) | refine zz_if_eq (tgt := 99) C dX1_bestBlock_23 (by decide) (fun c23 => ?_) (fun c23 => ?_)
      · obtain rfl : i = nb := by
          have := of_decide_eq_false c23
          omega
        refine zz_wk (h' := h) (fun x e hx => zz_uf hx hit) ?_
        refine zz_iload_n C dX1_bestBlock_99 rfl ?_
        refine zz_iret C dX1_bestBlock_100 (by first | rfl | exact Nat.ble_eq.mpr (by omega)) (by first | rfl | exact Nat.ble_eq.mpr (by omega)) ?_
        exact ⟨rfl, rfl⟩
      · have hi2 : i < nb := of_decide_eq_true c23
        first | refine zz_aload C dX1_bestBlock_26 rfl ?_ | refine zz_aloadN C dX1_bestBlock_26 rfl ?_
        refine zz_callF (x2 := ⟨"java/util/Iterator", "next", "()Ljava/lang/Object;"⟩) C zy_J9_next (ct_J9_next hi2 hnc (hel i hi2) zz_us (zz_uf hL hit) (zz_uf (hLx.T hi2) hit) (by omega)) rfl q371 q374 q376 nif_7 nid_7 zz_us rfl rfl rfl rfl rfl rfl dX1_bestBlock_28 ⟨by show (_ : Nat) ≤ 30; omega, by show (_ : Nat) ≤ 100; omega⟩ (fun v hz hp => ?_)
        obtain ⟨rfl, ez⟩ := hp
        rw [zz_upup] at ez
        obtain rfl := ez.symm
        have hbi : (zz_up h it (it_F (i + 1) (nI i) mcL (ad 6))) (ad (10 + i)) = some (bl_F a i (sz i)) := zz_uf (hQ.gb hi2) hit
        have hzi : (zz_up h it (it_F (i + 1) (nI i) mcL (ad 6))) (sz i) = some (bs_F a i) := zz_uf (hQ.gz hi2) hit
        refine zz_cast C rfl hbi rfl q383 (by first | exact Or.inl rfl | exact Or.inr (by decide +kernel)) dX1_bestBlock_33 ?_
        refine zz_astore C dX1_bestBlock_36 (by decide) ?_
        first | refine zz_aload_n C dX1_bestBlock_38 rfl ?_ | refine zz_aload_nN C dX1_bestBlock_38 rfl ?_
        first | refine zz_aload_n C dX1_bestBlock_39 rfl ?_ | refine zz_aload_nN C dX1_bestBlock_39 rfl ?_
        first | refine zz_aload C dX1_bestBlock_40 rfl ?_ | refine zz_aloadN C dX1_bestBlock_40 rfl ?_
        refine zz_callV C zy_X1_over (ct_X1_over hwf (hQ.nw hit) ho hi2) rfl q833 (zz_uf hq hit) rfl rfl rfl rfl rfl rfl dX1_bestBlock_42 ⟨by show (_ : Nat) ≤ 30; omega, by show (_ : Nat) ≤ 100; omega⟩ (fun v hz hp => ?_)
        obtain ⟨rfl, ez⟩ := hp
        obtain rfl := ez.symm
        refine zz_istore C dX1_bestBlock_45 (by decide) ?_
        refine zz_joinI (pcJ := 67) (zz_b (ca_be a o i)) ?_ ?_
        · rintro z67 rfl
          refine zz_istore C dX1_bestBlock_67 (by decide) ?_
          refine zz_joinI (pcJ := 83) (if ca_be a o i = true then nI i else (ca_bb a o i).1) ?_ ?_
          · rintro z83 rfl
            refine zz_istore_n C dX1_bestBlock_83 (by decide) ?_
            refine zz_joinI (pcJ := 95) (if ca_be a o i = true then qa_ov a o i else (ca_bb a o i).2) ?_ ?_
            · rintro z95 rfl
              refine zz_istore_n C dX1_bestBlock_95 (by decide) ?_
              refine zz_goto (tgt := 16) C dX1_bestBlock_96 (by decide) ?_
              refine zz_widen (cs' := 1 + (i + 1)) (ss' := 4 + 3 * (i + 1)) (by omega) (by omega) ?_
              rw [← ca_be_1, ← ca_be_2]
              exact zz_loc2 (ih (i + 1) (nI i) (by omega) (by omega)) ⟨rfl, rfl, rfl, rfl, rfl, trivial⟩
            · intro J95
              refine zz_iload C dX1_bestBlock_84 rfl ?_
              first | refine zz_ifb_eq (tgt := 94) C dX1_bestBlock_86 (by decide) (fun c86 => ?_) (fun c86 => ?_) | refine zz_if_eq (tgt := 94) C dX1_bestBlock_86 (by decide) (fun c86 => ?_) (fun c86 => ?_)
              · refine zz_iload_n C dX1_bestBlock_94 rfl ?_
                exact J95 _ (by first | exact zz_ift ‹_› | exact zz_iff ‹_›)
              · refine zz_iload C dX1_bestBlock_89 rfl ?_
                refine zz_goto (tgt := 95) C dX1_bestBlock_91 (by decide) ?_
                exact J95 _ (by first | exact zz_ift ‹_› | exact zz_iff ‹_›)
          · intro J83
            refine zz_iload C dX1_bestBlock_69 rfl ?_
            first | refine zz_ifb_eq (tgt := 82) C dX1_bestBlock_71 (by decide) (fun c71 => ?_) (fun c71 => ?_) | refine zz_if_eq (tgt := 82) C dX1_bestBlock_71 (by decide) (fun c71 => ?_) (fun c71 => ?_)
            · refine zz_iload_n C dX1_bestBlock_82 rfl ?_
              exact J83 _ (by first | exact zz_ift ‹_› | exact zz_iff ‹_›)
            · first | refine zz_aload C dX1_bestBlock_74 rfl ?_ | refine zz_aloadN C dX1_bestBlock_74 rfl ?_
              refine zz_getN C rfl hbi rfl in_X3 0 rfl (nst_16 C) (fun _ h => h) (by first | rfl | assumption) dX1_bestBlock_76 ?_
              refine zz_goto (tgt := 83) C dX1_bestBlock_79 (by decide) ?_
              exact J83 _ (by first | exact zz_ift ‹_› | exact zz_iff ‹_›)
        · intro J67
          refine zz_iload C dX1_bestBlock_47 rfl ?_
          refine zz_if_lt (tgt := 66) C dX1_bestBlock_49 (by decide) (fun c49 => ?_) (fun c49 => ?_)
          · refine zz_iconst (v := 0) C dX1_bestBlock_66 (by decide) ?_
            exact J67 _ (by unfold ca_be; first | (rw [decide_eq_false (Int32.not_le.mpr c49)]; rfl) | (rw [decide_eq_true (Int32.not_lt.mp c49), decide_eq_true c53]; rfl) | (rw [decide_eq_true (Int32.not_lt.mp c49), decide_eq_false c53, decide_eq_false (Int32.not_lt.mpr c59)]; rfl) | (rw [decide_eq_true (Int32.not_lt.mp c49), decide_eq_false c53, decide_eq_true (Int32.not_le.mp c59)]; rfl))
          · refine zz_iload_n C dX1_bestBlock_52 rfl ?_
            refine zz_if_lt (tgt := 62) C dX1_bestBlock_53 (by decide) (fun c53 => ?_) (fun c53 => ?_)
            · refine zz_iconst (v := 1) C dX1_bestBlock_62 (by decide) ?_
              refine zz_goto (tgt := 67) C dX1_bestBlock_63 (by decide) ?_
              exact J67 _ (by unfold ca_be; first | (rw [decide_eq_false (Int32.not_le.mpr c49)]; rfl) | (rw [decide_eq_true (Int32.not_lt.mp c49), decide_eq_true c53]; rfl) | (rw [decide_eq_true (Int32.not_lt.mp c49), decide_eq_false c53, decide_eq_false (Int32.not_lt.mpr c59)]; rfl) | (rw [decide_eq_true (Int32.not_lt.mp c49), decide_eq_false c53, decide_eq_true (Int32.not_le.mp c59)]; rfl))
            · refine zz_iload C dX1_bestBlock_56 rfl ?_
              refine zz_iload_n C dX1_bestBlock_58 rfl ?_
              refine zz_icmp_ge (tgt := 66) C dX1_bestBlock_59 (by decide) (fun c59 => ?_) (fun c59 => ?_)
              · refine zz_iconst (v := 0) C dX1_bestBlock_66 (by decide) ?_
                exact J67 _ (by unfold ca_be; first | (rw [decide_eq_false (Int32.not_le.mpr c49)]; rfl) | (rw [decide_eq_true (Int32.not_lt.mp c49), decide_eq_true c53]; rfl) | (rw [decide_eq_true (Int32.not_lt.mp c49), decide_eq_false c53, decide_eq_false (Int32.not_lt.mpr c59)]; rfl) | (rw [decide_eq_true (Int32.not_lt.mp c49), decide_eq_false c53, decide_eq_true (Int32.not_le.mp c59)]; rfl))
              · refine zz_iconst (v := 1) C dX1_bestBlock_62 (by decide) ?_
                refine zz_goto (tgt := 67) C dX1_bestBlock_63 (by decide) ?_
                exact J67 _ (by unfold ca_be; first | (rw [decide_eq_false (Int32.not_le.mpr c49)]; rfl) | (rw [decide_eq_true (Int32.not_lt.mp c49), decide_eq_true c53]; rfl) | (rw [decide_eq_true (Int32.not_lt.mp c49), decide_eq_false c53, decide_eq_false (Int32.not_lt.mpr c59)]; rfl) | (rw [decide_eq_true (Int32.not_lt.mp c49), decide_eq_false c53, decide_eq_true (Int32.not_le.mp c59)]; rfl))
  exact zz_loc2 (L16 (nb + 1) 0 (-1) (by omega) (by omega)) ⟨rfl, rfl, rfl, rfl, rfl, trivial⟩

theorem ct_X1_on {l : Launch} {D : va_G} {b0 : Nat} {h : zz_H} {q : Nat} {ow : Nat → Nat × Nat} {ad sz : Nat → Nat} {a : Nat → Int32} {nb no : Nat} (hwf : wfn a nb no) (hQ : qu_I D h ow q ad sz a nb no) {l1 : Nat} {v1 : Int32} (hv1 : v1 = nI l1) (hl1 : l1 < 3) {p1 : Nat} {v2 : Int32} (hv2 : v2 = nI p1) (hp1 : p1 < 5)  : zz_Ct l D b0 yX1_on cX1_on 5 (some (.object "QuarryOrders$Block")) 3 61 1 4 [.ref q, .int v1, .int v2] h (fun v h' => v = some (qu_pv ad (qa_find a (5 * v1 + v2) nb)) ∧ h' = h) := by
  refine zz_Ct.of zy_X1_on.1 rfl ?_
  intro p e s m below meth c C
  have hnb := hwf.1
  obtain ⟨mcL, ar, cap, f, hLx⟩ := hQ.gL
  have hq := hQ.gq
  have hL := hLx.1
  have hel : ∀ i : Nat, i < nb → f i = some (ad (10 + i)) := hLx.2.2.2.2.2
  have hnc : nb ≤ cap := hLx.2.2.1
  have hcap : cap ≤ 100 := hLx.2.2.2.1
  first | refine zz_aload_n C dX1_on_0 rfl ?_ | refine zz_aload_nN C dX1_on_0 rfl ?_
  refine zz_get C rfl hq rfl in_X1 5 rfl q183 (fun _ h => h) (by first | rfl | assumption) dX1_on_1 ?_
  refine zz_callF (x2 := ⟨"java/util/List", "iterator", "()Ljava/util/Iterator;"⟩) C zy_J2_iterator (ct_J2_iterator (by assumption)) rfl q333 q336 q338 nif_2 nid_2 hL rfl rfl rfl rfl rfl rfl dX1_on_4 ⟨Nat.le_of_ble_eq_true rfl, Nat.le_of_ble_eq_true rfl⟩ (fun v hz hp => ?_)
  obtain ⟨it, rfl, hit, hitb, ez⟩ := hp
  obtain rfl := ez.symm
  refine zz_astore_n C dX1_on_9 (by decide) ?_
  have L10 : ∀ (n : Nat) (i : Nat) (lr : Int32), i ≤ nb → nb + 1 ≤ i + n → (∀ b : Nat, b < i → ¬ (ca_on a v1 b = true ∧ a (12 + 10 * b + 8) - a (12 + 10 * b + 8) / 5 * 5 = v2)) → zz_V D b0 5 p l e ({ frames := 3, cells := 1, slots := 4, locals := 61 } : Jvm.Room) s m ([.ref q, .int v1, .int v2] : List Value).toArray below meth c (MQ below (zz_Q D b0 (fun v h' => v = some (qu_pv ad (qa_find a (5 * v1 + v2) nb)) ∧ h' = h)) ([.ref q, .int v1, .int v2] : List Value).toArray s 1 4 (fun q => b0 ≤ q)) 1 4 (zz_up h it (it_F i lr mcL (ad 6))) [(0, .ref q), (1, .int v1), (2, .int v2), (3, .ref it)] 10 [] := by
    intro n
    induction n with
    | zero =>
      intro i lr h1 h2 hno
      exact absurd h2 (by omega)
    | succ n ih =>
      intro i lr h1 h2 hno
      first | refine zz_aload_n C dX1_on_10 rfl ?_ | refine zz_aload_nN C dX1_on_10 rfl ?_
      refine zz_callF (x2 := ⟨"java/util/Iterator", "hasNext", "()Z"⟩) C zy_J9_hasNext (ct_J9_hasNext (by omega) (by omega) zz_us (zz_uf hL hit)) rfl q361 q365 q367 nif_6 nid_6 zz_us rfl rfl rfl rfl rfl rfl dX1_on_11 ⟨Nat.le_of_ble_eq_true rfl, Nat.le_of_ble_eq_true rfl⟩ (fun v hz hp => ?_)
      obtain ⟨rfl, ez⟩ := hp
      obtain rfl := ez.symm
      first | refine zz_ifb_eq (tgt := 56) C dX1_on_16 (by decide) (fun c16 => ?_) (fun c16 => ?_) | refine zz_if_eq (tgt := 56) C dX1_on_16 (by decide) (fun c16 => ?_) (fun c16 => ?_)
      · obtain rfl : i = nb := by
          have := of_decide_eq_false c16
          omega
        refine zz_wk (h' := h) (fun x e hx => zz_uf hx hit) ?_
        refine zz_null C dX1_on_56 ?_
        refine zz_aret C (Or.inl ⟨_, rfl⟩) (Or.inl rfl) dX1_on_57 rfl rfl ?_
        exact ⟨by rw [qu_pv_n (by rw [hv1, hv2]; exact ca_nat hwf hl1 hp1 (by rw [← hv1, ← hv2]; exact hno))], rfl⟩
      · have hi2 : i < nb := of_decide_eq_true c16
        first | refine zz_aload_n C dX1_on_19 rfl ?_ | refine zz_aload_nN C dX1_on_19 rfl ?_
        refine zz_callF (x2 := ⟨"java/util/Iterator", "next", "()Ljava/lang/Object;"⟩) C zy_J9_next (ct_J9_next hi2 hnc (hel i hi2) zz_us (zz_uf hL hit) (zz_uf (hLx.T hi2) hit) (by omega)) rfl q371 q374 q376 nif_7 nid_7 zz_us rfl rfl rfl rfl rfl rfl dX1_on_20 ⟨Nat.le_of_ble_eq_true rfl, Nat.le_of_ble_eq_true rfl⟩ (fun v hz hp => ?_)
        obtain ⟨rfl, ez⟩ := hp
        rw [zz_upup] at ez
        obtain rfl := ez.symm
        have hbi : (zz_up h it (it_F (i + 1) (nI i) mcL (ad 6))) (ad (10 + i)) = some (bl_F a i (sz i)) := zz_uf (hQ.gb hi2) hit
        have hzi : (zz_up h it (it_F (i + 1) (nI i) mcL (ad 6))) (sz i) = some (bs_F a i) := zz_uf (hQ.gz hi2) hit
        refine zz_cast C rfl hbi rfl q383 (by first | exact Or.inl rfl | exact Or.inr (by decide +kernel)) dX1_on_25 ?_
        refine zz_astore C dX1_on_28 (by decide) ?_
        first | refine zz_aload C dX1_on_30 rfl ?_ | refine zz_aloadN C dX1_on_30 rfl ?_
        refine zz_iload_n C dX1_on_32 rfl ?_
        refine zz_callV C zy_X3_isOn (ct_X3_isOn hbi) rfl q749 hbi rfl rfl rfl rfl rfl rfl dX1_on_33 ⟨Nat.le_of_ble_eq_true rfl, Nat.le_of_ble_eq_true rfl⟩ (fun v hz hp => ?_)
        obtain ⟨rfl, ez⟩ := hp
        obtain rfl := ez.symm
        first | refine zz_ifb_eq (tgt := 53) C dX1_on_36 (by decide) (fun c36 => ?_) (fun c36 => ?_) | refine zz_if_eq (tgt := 53) C dX1_on_36 (by decide) (fun c36 => ?_) (fun c36 => ?_)
        · refine zz_goto (tgt := 10) C dX1_on_53 (by decide) ?_
          exact zz_loc2 (ih (i + 1) (nI i) (by omega) (by omega) (fun b hb => by
            by_cases e : b = i
            · subst e
              first | exact (fun g => absurd (c36.symm.trans g.1) (by decide)) | exact (fun g => c47 g.2)
            · exact hno b (by omega))) ⟨rfl, rfl, rfl, rfl, trivial⟩
        · first | refine zz_aload C dX1_on_39 rfl ?_ | refine zz_aloadN C dX1_on_39 rfl ?_
          refine zz_getN C rfl hbi rfl in_X3 7 rfl (nst_29 C) (fun _ h => h) (by first | rfl | assumption) dX1_on_41 ?_
          refine zz_iconst (v := 5) C dX1_on_44 (by decide) ?_
          refine zz_irem C dX1_on_45 (by decide) ?_
          refine zz_iload_n C dX1_on_46 rfl ?_
          refine zz_icmp_ne (tgt := 53) C dX1_on_47 (by decide) (fun c47 => ?_) (fun c47 => ?_)
          · refine zz_goto (tgt := 10) C dX1_on_53 (by decide) ?_
            exact zz_loc2 (ih (i + 1) (nI i) (by omega) (by omega) (fun b hb => by
              by_cases e : b = i
              · subst e
                first | exact (fun g => absurd (c36.symm.trans g.1) (by decide)) | exact (fun g => c47 g.2)
              · exact hno b (by omega))) ⟨rfl, rfl, rfl, rfl, trivial⟩
          · refine zz_wk (h' := h) (fun x e hx => zz_uf hx hit) ?_
            first | refine zz_aload C dX1_on_50 rfl ?_ | refine zz_aloadN C dX1_on_50 rfl ?_
            refine zz_aret C (Or.inl ⟨_, rfl⟩) (Or.inr ⟨_, rfl⟩) dX1_on_52 rfl rfl ?_
            exact ⟨by rw [qu_pv_s (b := i) (by rw [hv1, hv2]; exact ca_at hwf hi2 hl1 hp1 (by rw [← hv1]; exact c36) (by rw [← hv2]; exact c47)) (by omega)], rfl⟩
  exact zz_loc2 (L10 (nb + 1) 0 (-1) (by omega) (by omega) (fun b hb => by omega)) ⟨rfl, rfl, rfl, rfl, trivial⟩

