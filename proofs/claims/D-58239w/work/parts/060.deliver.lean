/-! the quarry: deliveries and nights -/
theorem qa_100 (w : Int32) : w + 100 - 1 = w + 99 := by rw [Int32.sub_eq_add_neg, Int32.add_assoc]; rfl
theorem qa_del2_o {a : Nat → Int32} {b j : Nat} (h4 : j ≠ 12 + 10 * b + 4) (h8 : j ≠ 12 + 10 * b + 8) (h10 : j ≠ 10) : qa_del2 a b j = a j := by
  unfold qa_del2 qa_del1
  rw [up_n h10, up_n h8, up_n h4]
theorem qa_w_cg {a a' : Nat → Int32} {b : Nat} (h : ∀ k : Nat, k < 4 → a' (12 + 10 * b + k) = a (12 + 10 * b + k)) : qa_w a' b = qa_w a b := by
  unfold qa_w
  rw [show a' (12 + 10 * b) = a (12 + 10 * b) from h 0 (by decide), h 1 (by decide), h 2 (by decide), h 3 (by decide)]
theorem qa_w_e (a : Nat → Int32) (b : Nat) : a (12 + 10 * b) * a (12 + 10 * b + 1) * a (12 + 10 * b + 2) * a (12 + 10 * b + 3) / 10000 = qa_w a b := rfl
theorem ct_X1_deliver {l : Launch} {D : va_G} {b0 : Nat} {h : zz_H} {q : Nat} {ow : Nat → Nat × Nat} {ad sz : Nat → Nat} {a : Nat → Int32} {nb no : Nat} (hwf : wfn a nb no) (hQ : qu_I D h ow q ad sz a nb no) {b : Nat} (hb : b < nb)  : zz_Ct l D b0 yX1_deliver cX1_deliver 3 (some .int) 3 64 0 0 [.ref q, .ref (ad (10 + b))] h (fun v h' => v = some (.int (qa_inv a b)) ∧ qu_I D h' ow q ad sz (qa_del a b) nb no ∧ qu_G q h ow h') := by
  refine zz_Ct.of zy_X1_deliver.1 rfl ?_
  intro p e s m below meth c C
  have hnb := hwf.1
  have hno := hwf.2.1
  have hG : qu_G q h ow h := qu_G.rf
  first | refine zz_aload_n C dX1_deliver_0 rfl ?_ | refine zz_aload_nN C dX1_deliver_0 rfl ?_
  refine zz_iconst (v := 3) C dX1_deliver_1 (by decide) ?_
  refine zz_putN C rfl (hQ.gb hb) rfl in_X3 tyX3 tyX3_ok nmX3 4 rfl (nst_23 C) (fun _ h => h) rfl (tyX3_ok 4 (by decide)) (by first | rfl | exact zz_narZ (by first | exact zz_b01 _ | assumption | decide)) rfl (Nat.le_of_ble_eq_true rfl) dX1_deliver_2 ?_
  refine zz_gen (P := fun h' => qu_I D h' ow q ad sz (upd a (12 + 10 * b + 4) 3) nb no ∧ qu_G q h ow h') ⟨hQ.wb4 hb hnb, hG.tr (qu_G.up (hQ.owb hb) (Or.inr (by omega)))⟩ (fun hz hP => ?_)
  obtain ⟨hQ, hG⟩ := hP
  first | refine zz_aload_n C dX1_deliver_5 rfl ?_ | refine zz_aload_nN C dX1_deliver_5 rfl ?_
  refine zz_bipush (v := (-6)) C dX1_deliver_6 (by decide) ?_
  refine zz_putN C rfl (hQ.gb hb) rfl in_X3 tyX3 tyX3_ok nmX3 7 rfl (nst_29 C) (fun _ h => h) rfl (tyX3_ok 7 (by decide)) (by first | rfl | exact zz_narZ (by first | exact zz_b01 _ | assumption | decide)) rfl (Nat.le_of_ble_eq_true rfl) dX1_deliver_8 ?_
  refine zz_gen (P := fun h' => qu_I D h' ow q ad sz (qa_del1 a b) nb no ∧ qu_G q h ow h') ⟨hQ.wb8 hb hnb, hG.tr (qu_G.up (hQ.owb hb) (Or.inr (by omega)))⟩ (fun hz hP => ?_)
  obtain ⟨hQ, hG⟩ := hP
  first | refine zz_aload_n C dX1_deliver_11 rfl ?_ | refine zz_aload_nN C dX1_deliver_11 rfl ?_
  refine zz_dup C dX1_deliver_12 rfl ?_
  refine zz_get C rfl hQ.gq rfl in_X1 11 rfl q195 (fun _ h => h) (by first | rfl | assumption) dX1_deliver_13 ?_
  first | refine zz_aload_n C dX1_deliver_16 rfl ?_ | refine zz_aload_nN C dX1_deliver_16 rfl ?_
  refine zz_callV C zy_X3_weight (ct_X3_weight (hQ.gb hb) (hQ.gz hb)) rfl q571 (hQ.gb hb) rfl rfl rfl rfl rfl rfl dX1_deliver_17 ⟨Nat.le_of_ble_eq_true rfl, Nat.le_of_ble_eq_true rfl⟩ (fun v hz hp => ?_)
  obtain ⟨rfl, ez⟩ := hp
  obtain rfl := ez.symm
  rw [qa_w_e]
  refine zz_iadd C dX1_deliver_20 ?_
  refine zz_put C rfl hQ.gq rfl in_X1 tyX1 tyX1_ok nmX1 11 rfl q195 (fun _ h => h) rfl (tyX1_ok 11 (by decide)) (by first | rfl | exact zz_narZ (by first | exact zz_b01 _ | assumption | decide)) rfl (Nat.le_of_ble_eq_true rfl) dX1_deliver_21 ?_
  refine zz_gen (P := fun h' => qu_I D h' ow q ad sz (qa_del2 a b) nb no ∧ qu_G q h ow h') ⟨hQ.wq10 hnb hno, hG.tr (qu_G.up hQ.oq (Or.inl rfl))⟩ (fun hz hP => ?_)
  obtain ⟨hQ, hG⟩ := hP
  first | refine zz_aload_n C dX1_deliver_24 rfl ?_ | refine zz_aload_nN C dX1_deliver_24 rfl ?_
  refine zz_getN C rfl (hQ.gb hb) rfl in_X3 6 rfl (nst_27 C) (fun _ h => h) (by first | rfl | assumption) dX1_deliver_25 ?_
  rw [qa_del2_o (a := a) (b := b) (by omega) (by omega) (by omega)]
  refine zz_if_ge (tgt := 33) C dX1_deliver_28 (by decide) (fun c28 => ?_) (fun c28 => ?_)
  · obtain ⟨o, ho, eo⟩ : ∃ o : Nat, o < no ∧ a (12 + 10 * b + 7) = nI o := by
      rcases hwf.o7 hb with e | g
      · rw [e] at c28
        exact absurd c28 (by decide)
      · exact g
    obtain ⟨mcO, arO, capO, fO, hOx⟩ := hQ.gO
    have heO : fO o = some (ad (40 + o)) := hOx.2.2.2.2.2 o ho
    have hcO : capO ≤ 100 := hOx.2.2.2.1
    first | refine zz_aload_n C dX1_deliver_33 rfl ?_ | refine zz_aload_nN C dX1_deliver_33 rfl ?_
    refine zz_get C rfl hQ.gq rfl in_X1 6 rfl q185 (fun _ h => h) (by first | rfl | assumption) dX1_deliver_34 ?_
    first | refine zz_aload_n C dX1_deliver_37 rfl ?_ | refine zz_aload_nN C dX1_deliver_37 rfl ?_
    refine zz_getN C rfl (hQ.gb hb) rfl in_X3 6 rfl (nst_27 C) (fun _ h => h) (by first | rfl | assumption) dX1_deliver_38 ?_
    rw [qa_del2_o (a := a) (b := b) (by omega) (by omega) (by omega), eo]
    refine zz_callF (x2 := ⟨"java/util/List", "get", "(I)Ljava/lang/Object;"⟩) C zy_J2_get (ct_J2_get o rfl heO ho hOx.2.2.1 hOx.1 (hOx.T ho) (by omega)) rfl q797 q603 q605 nif_4 nid_4 hOx.1 rfl rfl rfl rfl rfl rfl dX1_deliver_41 ⟨Nat.le_of_ble_eq_true rfl, Nat.le_of_ble_eq_true rfl⟩ (fun v hz hp => ?_)
    obtain ⟨rfl, ez⟩ := hp
    obtain rfl := ez.symm
    refine zz_cast C rfl (hQ.go ho) rfl q497 (by first | exact Or.inl rfl | exact Or.inr (by decide +kernel)) dX1_deliver_46 ?_
    refine zz_astore_n C dX1_deliver_49 (by decide) ?_
    first | refine zz_aload_n C dX1_deliver_50 rfl ?_ | refine zz_aload_nN C dX1_deliver_50 rfl ?_
    refine zz_iconst (v := 2) C dX1_deliver_51 (by decide) ?_
    refine zz_putN C rfl (hQ.go ho) rfl in_X4 tyX4 tyX4_ok nmX4 1 rfl (nst_35 C) (fun _ h => h) rfl (tyX4_ok 1 (by decide)) (by first | rfl | exact zz_narZ (by first | exact zz_b01 _ | assumption | decide)) rfl (Nat.le_of_ble_eq_true rfl) dX1_deliver_52 ?_
    refine zz_gen (P := fun h' => qu_I D h' ow q ad sz (upd (qa_del2 a b) (252 + 6 * o + 3) 2) nb no ∧ qu_G q h ow h') ⟨hQ.wo3 ho hnb hno, hG.tr (qu_G.up (hQ.owo ho) (Or.inr (by omega)))⟩ (fun hz hP => ?_)
    obtain ⟨hQ, hG⟩ := hP
    obtain ⟨fs, hfs, es⟩ := hQ.gs
    first | refine zz_aload_n C dX1_deliver_55 rfl ?_ | refine zz_aload_nN C dX1_deliver_55 rfl ?_
    first | refine zz_aload_n C dX1_deliver_56 rfl ?_ | refine zz_aload_nN C dX1_deliver_56 rfl ?_
    refine zz_get C rfl hQ.gq rfl in_X1 0 rfl q173 (fun _ h => h) (by first | rfl | assumption) dX1_deliver_57 ?_
    refine zz_iconst (v := nI 1) C dX1_deliver_60 (by decide) ?_
    refine zz_iald C hfs rfl (by omega) (by omega) dX1_deliver_61 ?_
    rw [es 1 (by decide), up_n (by omega), qa_del2_o (by omega) (by omega) (by omega)]
    first | refine zz_aload_n C dX1_deliver_62 rfl ?_ | refine zz_aload_nN C dX1_deliver_62 rfl ?_
    refine zz_callV C zy_X3_weight (ct_X3_weight (hQ.gb hb) (hQ.gz hb)) rfl q571 (hQ.gb hb) rfl rfl rfl rfl rfl rfl dX1_deliver_63 ⟨Nat.le_of_ble_eq_true rfl, Nat.le_of_ble_eq_true rfl⟩ (fun v hz hp => ?_)
    obtain ⟨rfl, ez⟩ := hp
    obtain rfl := ez.symm
    rw [qa_w_e, qa_w_cg (a := a) (fun k hk => by rw [up_n (by omega), qa_del2_o (by omega) (by omega) (by omega)])]
    refine zz_bipush (v := 100) C dX1_deliver_66 (by decide) ?_
    refine zz_iadd C dX1_deliver_68 ?_
    refine zz_iconst (v := 1) C dX1_deliver_69 (by decide) ?_
    refine zz_isub C dX1_deliver_70 ?_
    rw [qa_100]
    refine zz_bipush (v := 100) C dX1_deliver_71 (by decide) ?_
    refine zz_idiv C dX1_deliver_73 (by decide) ?_
    refine zz_imul C dX1_deliver_74 ?_
    rw [show a 1 * ((qa_w a b + 99) / 100) = qa_inv a b from (if_neg (by rw [eo]; exact qa_n6 (by omega))).symm]
    refine zz_putN C rfl (hQ.go ho) rfl in_X4 tyX4 tyX4_ok nmX4 3 rfl (nst_38 C) (fun _ h => h) rfl (tyX4_ok 3 (by decide)) (by first | rfl | exact zz_narZ (by first | exact zz_b01 _ | assumption | decide)) rfl (Nat.le_of_ble_eq_true rfl) dX1_deliver_75 ?_
    refine zz_gen (P := fun h' => qu_I D h' ow q ad sz (upd (upd (qa_del2 a b) (252 + 6 * o + 3) 2) (252 + 6 * o + 5) (qa_inv a b)) nb no ∧ qu_G q h ow h') ⟨hQ.wo5 ho hnb hno, hG.tr (qu_G.up (hQ.owo ho) (Or.inr (by omega)))⟩ (fun hz hP => ?_)
    obtain ⟨hQ, hG⟩ := hP
    first | refine zz_aload_n C dX1_deliver_78 rfl ?_ | refine zz_aload_nN C dX1_deliver_78 rfl ?_
    refine zz_getN C rfl (hQ.go ho) rfl in_X4 3 rfl (nst_38 C) (fun _ h => h) (by first | rfl | assumption) dX1_deliver_79 ?_
    rw [up_s]
    refine zz_iret C dX1_deliver_82 rfl rfl ?_
    refine ⟨rfl, ?_, hG⟩
    rw [show qa_del a b = _ from if_neg (by rw [eo]; exact qa_n6 (by omega)), eo, nI_clamp (by omega)]
    exact hQ
  · have e6 : a (12 + 10 * b + 7) = -6 := by
      rcases hwf.o7 hb with e | ⟨o, ho, e⟩
      · exact e
      · rw [e] at c28
        exact absurd (nI_pos' (by omega)) c28
    refine zz_iconst (v := 0) C dX1_deliver_31 (by decide) ?_
    refine zz_iret C dX1_deliver_32 rfl rfl ?_
    refine ⟨by rw [show qa_inv a b = 0 from if_pos e6], ?_, hG⟩
    rw [show qa_del a b = qa_del2 a b from if_pos e6]
    exact hQ

