/-! the twin: best block, fitting cut, put -/
theorem ct_X2_bestBlock {l : Launch} {D : va_G} {b0 : Nat} {h : zz_H} {x : Nat} {ad : Nat → Nat} {a ah hi : Nat → Int32} {kp : Nat} {sl sv pd : Nat → Int32} {len : Nat} {so : Nat → Int32} {pos wr : Int32} {to : Nat → Int32} {v0 : Int32} (nb : Nat) (h5 : a 5 = nI nb) (hnb : nb ≤ 24) (no : Nat) (h6o : a 6 = nI no) (hno : no ≤ 10) (hX : tw_X D h x ad a ah hi kp sl sv pd len so pos wr to) : zz_Ct l D b0 yX2_bestBlock cX2_bestBlock 4 (some .int) 4 98 0 0 [.ref x, .int v0] h (fun v h' => v = some (.int (op_bb a v0)) ∧ tw_G D h ad h' a) := by
  refine zz_Ct.of zy_X2_bestBlock.1 rfl ?_
  intro p e s m below meth c C
  have hM := hX.M
  obtain ⟨hx, h0, h1a, h2a, h3a, h4a, h5a, h6, h7, hd⟩ := id hX
  have hd06 : ad 0 ≠ ad 6 := hd 0 6 (by decide) (by decide) (by decide)
  have hn5 : (a 5).toNatClampNeg = nb := by rw [h5]; exact nI_clamp (by omega)
  first | refine zz_aload_n C dX2_bestBlock_0 rfl ?_ | refine zz_aload_nN C dX2_bestBlock_0 rfl ?_
  refine zz_iload_n C dX2_bestBlock_1 rfl ?_
  refine zz_callV C zy_X2_isOrder (ct_X2_isOrder hM) rfl q1360 (by first | assumption | exact zz_us | exact zz_lk1 (by assumption) (by assumption) | exact zz_lk3 (hd _ _ (by decide) (by decide) (by decide)) (by assumption) | exact zz_uf (by assumption) (by assumption) | exact zz_lk3 (zz_xi (by assumption) (by assumption)) (zz_lk1 (by assumption) (by assumption)) | exact zz_lk3 (hd _ _ (by decide) (by decide) (by decide)) (zz_lk3 (hd _ _ (by decide) (by decide) (by decide)) (by assumption)) | (simp only [zz_up]; simp_all; done)) rfl rfl rfl rfl rfl rfl dX2_bestBlock_2 ⟨Nat.le_of_ble_eq_true rfl, Nat.le_of_ble_eq_true rfl⟩ (fun v hz hp => ?_)
  obtain ⟨rfl, ez⟩ := hp
  obtain rfl := ez.symm
  first | refine zz_ifb_ne (tgt := 10) C dX2_bestBlock_5 (by decide) (fun c5 => ?_) (fun c5 => ?_) | refine zz_if_ne (tgt := 10) C dX2_bestBlock_5 (by decide) (fun c5 => ?_) (fun c5 => ?_)
  · obtain ⟨o, ho, ev⟩ := qa_ix (n := no) (by omega) (by rw [← h6o]; assumption)
    have eon : v0.toNatClampNeg = o := by rw [ev]; exact nI_clamp (by omega)
    first | refine zz_aload_n C dX2_bestBlock_10 rfl ?_ | refine zz_aload_nN C dX2_bestBlock_10 rfl ?_
    refine zz_get C rfl (by first | assumption | exact zz_us | exact zz_lk1 (by assumption) (by assumption) | exact zz_lk3 (hd _ _ (by decide) (by decide) (by decide)) (by assumption) | exact zz_uf (by assumption) (by assumption) | exact zz_lk3 (zz_xi (by assumption) (by assumption)) (zz_lk1 (by assumption) (by assumption)) | exact zz_lk3 (hd _ _ (by decide) (by decide) (by decide)) (zz_lk3 (hd _ _ (by decide) (by decide) (by decide)) (by assumption)) | (simp only [zz_up]; simp_all; done)) rfl in_X2 0 rfl q1230 (fun _ h => h) (by first | rfl | assumption) dX2_bestBlock_11 ?_
    refine zz_iload_n C dX2_bestBlock_14 rfl ?_
    refine zz_iconst (v := nI 3) C dX2_bestBlock_15 (by decide) ?_
    refine zz_callS C zy_X2_ofOrderAt (ct_X2_ofOrderAt o 3 ev rfl) rfl q1353 rfl rfl rfl rfl rfl dX2_bestBlock_16 ⟨Nat.le_of_ble_eq_true rfl, Nat.le_of_ble_eq_true rfl⟩ (fun v hz hp => ?_)
    obtain ⟨rfl, ez⟩ := hp
    obtain rfl := ez.symm
    refine zz_iald C (by first | assumption | exact zz_us | exact zz_lk1 (by assumption) (by assumption) | exact zz_lk3 (hd _ _ (by decide) (by decide) (by decide)) (by assumption) | exact zz_uf (by assumption) (by assumption) | exact zz_lk3 (zz_xi (by assumption) (by assumption)) (zz_lk1 (by assumption) (by assumption)) | exact zz_lk3 (hd _ _ (by decide) (by decide) (by decide)) (zz_lk3 (hd _ _ (by decide) (by decide) (by decide)) (by assumption)) | (simp only [zz_up]; simp_all; done)) rfl (by omega) (by omega) dX2_bestBlock_19 ?_
    first | refine zz_ifb_eq (tgt := 26) C dX2_bestBlock_20 (by decide) (fun c20 => ?_) (fun c20 => ?_) | refine zz_if_eq (tgt := 26) C dX2_bestBlock_20 (by decide) (fun c20 => ?_) (fun c20 => ?_)
    · refine zz_bipush (v := (-6)) C dX2_bestBlock_26 (by decide) ?_
      refine zz_istore_n C dX2_bestBlock_28 (by decide) ?_
      first | refine zz_aload_n C dX2_bestBlock_29 rfl ?_ | refine zz_aload_nN C dX2_bestBlock_29 rfl ?_
      refine zz_get C rfl (by first | assumption | exact zz_us | exact zz_lk1 (by assumption) (by assumption) | exact zz_lk3 (hd _ _ (by decide) (by decide) (by decide)) (by assumption) | exact zz_uf (by assumption) (by assumption) | exact zz_lk3 (zz_xi (by assumption) (by assumption)) (zz_lk1 (by assumption) (by assumption)) | exact zz_lk3 (hd _ _ (by decide) (by decide) (by decide)) (zz_lk3 (hd _ _ (by decide) (by decide) (by decide)) (by assumption)) | (simp only [zz_up]; simp_all; done)) rfl in_X2 0 rfl q1230 (fun _ h => h) (by first | rfl | assumption) dX2_bestBlock_30 ?_
      refine zz_iconst (v := nI 5) C dX2_bestBlock_33 (by decide) ?_
      refine zz_iald C (by first | assumption | exact zz_us | exact zz_lk1 (by assumption) (by assumption) | exact zz_lk3 (hd _ _ (by decide) (by decide) (by decide)) (by assumption) | exact zz_uf (by assumption) (by assumption) | exact zz_lk3 (zz_xi (by assumption) (by assumption)) (zz_lk1 (by assumption) (by assumption)) | exact zz_lk3 (hd _ _ (by decide) (by decide) (by decide)) (zz_lk3 (hd _ _ (by decide) (by decide) (by decide)) (by assumption)) | (simp only [zz_up]; simp_all; done)) rfl (by omega) (by omega) dX2_bestBlock_34 ?_
      refine zz_iconst (v := 1) C dX2_bestBlock_35 (by decide) ?_
      refine zz_isub C dX2_bestBlock_36 ?_
      refine zz_istore_n C dX2_bestBlock_37 (by decide) ?_
      have L38 : ∀ (n : Nat) (i n1 : Nat) (g : Nat → Int32), i + n1 = nb → i + 1 ≤ n → zz_V D b0 4 p l e ({ frames := 4, cells := 0, slots := 0, locals := 98 } : Jvm.Room) s m ([.ref x, .int v0] : List Value).toArray below meth c (MQ below (zz_Q D b0 (fun v h' => v = some (.int (op_bb a v0)) ∧ tw_G D h ad h' a)) ([.ref x, .int v0] : List Value).toArray s 0 0 (fun q => b0 ≤ q)) 0 0 (zz_up h (ad 6) (.inl (D.1 100, 3, .inl g))) [(0, .ref x), (1, .int v0), (2, .int (qa_bb a nb o n1)), (3, .int (nI i - 1))] 38 [] := by
        intro n
        induction n with
        | zero =>
          intro i n1 g h1 h2
          exact absurd h2 (by omega)
        | succ n ih =>
          intro i n1 g h1 h2
          refine zz_iload_n C dX2_bestBlock_38 rfl ?_
          refine zz_if_lt (tgt := 84) C dX2_bestBlock_39 (by decide) (fun c39 => ?_) (fun c39 => ?_)
          · obtain rfl := zz_dn (by omega) c39
            obtain rfl : n1 = nb := by omega
            refine zz_iload_n C dX2_bestBlock_84 rfl ?_
            refine zz_iret C dX2_bestBlock_85 rfl rfl ?_
            refine ⟨?_, ?_⟩
            · unfold op_bb
              first
              | rw [if_pos c5]
              | rw [if_neg (zz_tf c5), eon, if_pos c20]
              | rw [if_neg (zz_tf c5), eon, if_neg (Decidable.not_not.mpr c20), hn5]
            · first | exact tw_G.same h0 h6 | exact tw_G.of6 h0 hd06 rfl
          · obtain ⟨j, rfl⟩ := zz_dp c39
            rw [zz_sub1]
            have e4 : nb - 1 - n1 = j := by omega
            first | refine zz_aload_n C dX2_bestBlock_42 rfl ?_ | refine zz_aload_nN C dX2_bestBlock_42 rfl ?_
            refine zz_iload_n C dX2_bestBlock_43 rfl ?_
            refine zz_iload_n C dX2_bestBlock_44 rfl ?_
            refine zz_callV C zy_X2_canGive (ct_X2_canGive o j ev (by omega) rfl (by omega) (hX.u6 g)) rfl q1364 (by first | assumption | exact zz_us | exact zz_lk1 (by assumption) (by assumption) | exact zz_lk3 (hd _ _ (by decide) (by decide) (by decide)) (by assumption) | exact zz_uf (by assumption) (by assumption) | exact zz_lk3 (zz_xi (by assumption) (by assumption)) (zz_lk1 (by assumption) (by assumption)) | exact zz_lk3 (hd _ _ (by decide) (by decide) (by decide)) (zz_lk3 (hd _ _ (by decide) (by decide) (by decide)) (by assumption)) | (simp only [zz_up]; simp_all; done)) rfl rfl rfl rfl rfl rfl dX2_bestBlock_45 ⟨Nat.le_of_ble_eq_true rfl, Nat.le_of_ble_eq_true rfl⟩ (fun v hz hp => ?_)
            obtain ⟨g2, rfl, ez⟩ := hp
            rw [zz_upup] at ez
            obtain rfl := ez.symm
            first | refine zz_ifb_eq (tgt := 76) C dX2_bestBlock_48 (by decide) (fun c48 => ?_) (fun c48 => ?_) | refine zz_if_eq (tgt := 76) C dX2_bestBlock_48 (by decide) (fun c48 => ?_) (fun c48 => ?_)
            · refine zz_iload_n C dX2_bestBlock_76 rfl ?_
              refine zz_istore_n C dX2_bestBlock_77 (by decide) ?_
              refine zz_iinc C dX2_bestBlock_78 rfl (zz_m1 _) (by decide) ?_
              refine zz_goto (tgt := 38) C dX2_bestBlock_81 (by decide) ?_
              refine zz_loc2 (ih j (n1 + 1) _ (by omega) (by omega)) ⟨rfl, rfl, ?_, rfl, trivial⟩
              clear ih
              show some (Value.int _) = some (Value.int _)
              first
              | (rw [qa_bb_s e4 c48 (Or.inl c54)])
              | (rw [qa_bb_s e4 c48 (Or.inr (by rw [ebfc]; exact Int32.not_lt.mp c69))])
              | (rw [qa_bb_n e4 (Or.inl c48)])
              | (rw [qa_bb_n e4 (Or.inr ⟨c54, by rw [ebfc]; exact Int32.not_le.mpr c69⟩)])
            · refine zz_iload_n C dX2_bestBlock_51 rfl ?_
              refine zz_bipush (v := (-6)) C dX2_bestBlock_52 (by decide) ?_
              refine zz_icmp_eq (tgt := 72) C dX2_bestBlock_54 (by decide) (fun c54 => ?_) (fun c54 => ?_)
              · refine zz_iload_n C dX2_bestBlock_72 rfl ?_
                refine zz_goto (tgt := 77) C dX2_bestBlock_73 (by decide) ?_
                refine zz_istore_n C dX2_bestBlock_77 (by decide) ?_
                refine zz_iinc C dX2_bestBlock_78 rfl (zz_m1 _) (by decide) ?_
                refine zz_goto (tgt := 38) C dX2_bestBlock_81 (by decide) ?_
                refine zz_loc2 (ih j (n1 + 1) _ (by omega) (by omega)) ⟨rfl, rfl, ?_, rfl, trivial⟩
                clear ih
                show some (Value.int _) = some (Value.int _)
                first
                | (rw [qa_bb_s e4 c48 (Or.inl c54)])
                | (rw [qa_bb_s e4 c48 (Or.inr (by rw [ebfc]; exact Int32.not_lt.mp c69))])
                | (rw [qa_bb_n e4 (Or.inl c48)])
                | (rw [qa_bb_n e4 (Or.inr ⟨c54, by rw [ebfc]; exact Int32.not_le.mpr c69⟩)])
              · obtain ⟨bf, hbf, ebf⟩ := (qa_bb_c a nb o n1 (by omega)).resolve_left c54
                have ebfc : (qa_bb a nb o n1).toNatClampNeg = bf := by rw [ebf]; exact nI_clamp (by omega)
                first | refine zz_aload_n C dX2_bestBlock_57 rfl ?_ | refine zz_aload_nN C dX2_bestBlock_57 rfl ?_
                refine zz_iload_n C dX2_bestBlock_58 rfl ?_
                refine zz_iload_n C dX2_bestBlock_59 rfl ?_
                refine zz_callV C zy_X2_excessOf (ct_X2_excessOf o j ev (by omega) rfl (by omega) (hX.u6 g2)) rfl q1368 (by first | assumption | exact zz_us | exact zz_lk1 (by assumption) (by assumption) | exact zz_lk3 (hd _ _ (by decide) (by decide) (by decide)) (by assumption) | exact zz_uf (by assumption) (by assumption) | exact zz_lk3 (zz_xi (by assumption) (by assumption)) (zz_lk1 (by assumption) (by assumption)) | exact zz_lk3 (hd _ _ (by decide) (by decide) (by decide)) (zz_lk3 (hd _ _ (by decide) (by decide) (by decide)) (by assumption)) | (simp only [zz_up]; simp_all; done)) rfl rfl rfl rfl rfl rfl dX2_bestBlock_60 ⟨Nat.le_of_ble_eq_true rfl, Nat.le_of_ble_eq_true rfl⟩ (fun v hz hp => ?_)
                obtain ⟨g2, rfl, ez⟩ := hp
                rw [zz_upup] at ez
                obtain rfl := ez.symm
                first | refine zz_aload_n C dX2_bestBlock_63 rfl ?_ | refine zz_aload_nN C dX2_bestBlock_63 rfl ?_
                refine zz_iload_n C dX2_bestBlock_64 rfl ?_
                refine zz_iload_n C dX2_bestBlock_65 rfl ?_
                refine zz_callV C zy_X2_excessOf (ct_X2_excessOf o bf ev (by omega) ebf (by omega) (hX.u6 g2)) rfl q1368 (by first | assumption | exact zz_us | exact zz_lk1 (by assumption) (by assumption) | exact zz_lk3 (hd _ _ (by decide) (by decide) (by decide)) (by assumption) | exact zz_uf (by assumption) (by assumption) | exact zz_lk3 (zz_xi (by assumption) (by assumption)) (zz_lk1 (by assumption) (by assumption)) | exact zz_lk3 (hd _ _ (by decide) (by decide) (by decide)) (zz_lk3 (hd _ _ (by decide) (by decide) (by decide)) (by assumption)) | (simp only [zz_up]; simp_all; done)) rfl rfl rfl rfl rfl rfl dX2_bestBlock_66 ⟨Nat.le_of_ble_eq_true rfl, Nat.le_of_ble_eq_true rfl⟩ (fun v hz hp => ?_)
                obtain ⟨g2, rfl, ez⟩ := hp
                rw [zz_upup] at ez
                obtain rfl := ez.symm
                refine zz_icmp_gt (tgt := 76) C dX2_bestBlock_69 (by decide) (fun c69 => ?_) (fun c69 => ?_)
                · refine zz_iload_n C dX2_bestBlock_76 rfl ?_
                  refine zz_istore_n C dX2_bestBlock_77 (by decide) ?_
                  refine zz_iinc C dX2_bestBlock_78 rfl (zz_m1 _) (by decide) ?_
                  refine zz_goto (tgt := 38) C dX2_bestBlock_81 (by decide) ?_
                  refine zz_loc2 (ih j (n1 + 1) _ (by omega) (by omega)) ⟨rfl, rfl, ?_, rfl, trivial⟩
                  clear ih
                  show some (Value.int _) = some (Value.int _)
                  first
                  | (rw [qa_bb_s e4 c48 (Or.inl c54)])
                  | (rw [qa_bb_s e4 c48 (Or.inr (by rw [ebfc]; exact Int32.not_lt.mp c69))])
                  | (rw [qa_bb_n e4 (Or.inl c48)])
                  | (rw [qa_bb_n e4 (Or.inr ⟨c54, by rw [ebfc]; exact Int32.not_le.mpr c69⟩)])
                · refine zz_iload_n C dX2_bestBlock_72 rfl ?_
                  refine zz_goto (tgt := 77) C dX2_bestBlock_73 (by decide) ?_
                  refine zz_istore_n C dX2_bestBlock_77 (by decide) ?_
                  refine zz_iinc C dX2_bestBlock_78 rfl (zz_m1 _) (by decide) ?_
                  refine zz_goto (tgt := 38) C dX2_bestBlock_81 (by decide) ?_
                  refine zz_loc2 (ih j (n1 + 1) _ (by omega) (by omega)) ⟨rfl, rfl, ?_, rfl, trivial⟩
                  clear ih
                  show some (Value.int _) = some (Value.int _)
                  first
                  | (rw [qa_bb_s e4 c48 (Or.inl c54)])
                  | (rw [qa_bb_s e4 c48 (Or.inr (by rw [ebfc]; exact Int32.not_lt.mp c69))])
                  | (rw [qa_bb_n e4 (Or.inl c48)])
                  | (rw [qa_bb_n e4 (Or.inr ⟨c54, by rw [ebfc]; exact Int32.not_le.mpr c69⟩)])
      rw [h5]
      have L0 := L38 (nb + 1) nb 0 so (by omega) (by omega)
      rw [zz_upsame h6] at L0
      exact zz_loc2 L0 ⟨rfl, rfl, rfl, rfl, trivial⟩
    · refine zz_bipush (v := (-5)) C dX2_bestBlock_23 (by decide) ?_
      refine zz_iret C dX2_bestBlock_25 rfl rfl ?_
      refine ⟨?_, ?_⟩
      · unfold op_bb
        first
        | rw [if_pos c5]
        | rw [if_neg (zz_tf c5), eon, if_pos c20]
        | rw [if_neg (zz_tf c5), eon, if_neg (Decidable.not_not.mpr c20), hn5]
      · first | exact tw_G.same h0 h6 | exact tw_G.of6 h0 hd06 rfl
  · refine zz_iconst (v := (-1)) C dX2_bestBlock_8 (by decide) ?_
    refine zz_iret C dX2_bestBlock_9 rfl rfl ?_
    refine ⟨?_, ?_⟩
    · unfold op_bb
      first
      | rw [if_pos c5]
      | rw [if_neg (zz_tf c5), eon, if_pos c20]
      | rw [if_neg (zz_tf c5), eon, if_neg (Decidable.not_not.mpr c20), hn5]
    · first | exact tw_G.same h0 h6 | exact tw_G.of6 h0 hd06 rfl

theorem ct_X2_isFitting {l : Launch} {D : va_G} {b0 : Nat} {h : zz_H} {x : Nat} {ad : Nat → Nat} {a ah hi : Nat → Int32} {kp : Nat} {sl sv pd : Nat → Int32} {len : Nat} {so : Nat → Int32} {pos wr : Int32} {to : Nat → Int32} {v0 v1 v2 v3 : Int32} (o b k : Nat) (hv0 : v0 = nI o) (ho : o < 10) (hv1 : v1 = nI b) (hb : b < 24) (hv2 : v2 = nI k) (hk : k < 3) (hX : tw_X D h x ad a ah hi kp sl sv pd len so pos wr to) : zz_Ct l D b0 yX2_isFitting cX2_isFitting 9 (some .boolean) 2 53 0 0 [.ref x, .int v0, .int v1, .int v2, .int v3] h (fun v h' => ∃ g : Nat → Int32, v = some (.int (zz_b (qa_isf a o b k v3))) ∧ h' = zz_up h (ad 6) (.inl (D.1 100, 3, .inl g))) := by
  refine zz_Ct.of zy_X2_isFitting.1 rfl ?_
  intro p e s m below meth c C
  have hM := hX.M
  obtain ⟨hx, h0, h1a, h2a, h3a, h4a, h5a, h6, h7, hd⟩ := id hX
  have w0 : v2 = 0 ↔ k = 0 := by rw [hv2]; exact nI_eq (b := 0) (by omega) (by decide)
  have w1 : v2 = 1 ↔ k = 1 := by rw [hv2]; exact nI_eq (b := 1) (by omega) (by decide)
  have w2 : v2 = 2 ↔ k = 2 := by rw [hv2]; exact nI_eq (b := 2) (by omega) (by decide)
  refine zz_joinI (pcJ := 19) (qa_at a b k 0 v3) ?_ ?_
  · rintro z19 rfl
    refine zz_istore C dX2_isFitting_19 (by decide) ?_
    refine zz_joinI (pcJ := 41) (qa_at a b k 1 v3) ?_ ?_
    · rintro z41 rfl
      refine zz_istore C dX2_isFitting_41 (by decide) ?_
      refine zz_joinI (pcJ := 63) (qa_at a b k 2 v3) ?_ ?_
      · rintro z63 rfl
        refine zz_istore C dX2_isFitting_63 (by decide) ?_
        refine zz_joinI (pcJ := 94) (zz_b (decide (1 ≤ qa_rest a b k v3))) ?_ ?_
        · rintro z94 rfl
          refine zz_istore C dX2_isFitting_94 (by decide) ?_
          refine zz_iload C dX2_isFitting_96 rfl ?_
          first | refine zz_ifb_eq (tgt := 135) C dX2_isFitting_98 (by decide) (fun c98 => ?_) (fun c98 => ?_) | refine zz_if_eq (tgt := 135) C dX2_isFitting_98 (by decide) (fun c98 => ?_) (fun c98 => ?_)
          · refine zz_iconst (v := 0) C dX2_isFitting_135 (by decide) ?_
            refine zz_zret0 C (zz_narZ (by first | exact zz_b01 _ | decide | assumption)) dX2_isFitting_136 rfl rfl ?_
            first
            | (refine ⟨g, ?_, rfl⟩; unfold qa_isf; first | (rw [c98, decide_eq_true c112, decide_eq_true c128] <;> rfl) | (rw [c98, decide_eq_true c112, decide_eq_false c128] <;> rfl))
            | (refine ⟨so, ?_, (zz_upsame h6).symm⟩; unfold qa_isf; first | (rw [c98, decide_eq_false c112] <;> rfl) | (rw [c98] <;> rfl))
          · first | refine zz_aload_n C dX2_isFitting_101 rfl ?_ | refine zz_aload_nN C dX2_isFitting_101 rfl ?_
            refine zz_get C rfl (by first | assumption | exact zz_us | exact zz_lk1 (by assumption) (by assumption) | exact zz_lk3 (hd _ _ (by decide) (by decide) (by decide)) (by assumption) | exact zz_uf (by assumption) (by assumption) | exact zz_lk3 (zz_xi (by assumption) (by assumption)) (zz_lk1 (by assumption) (by assumption)) | exact zz_lk3 (hd _ _ (by decide) (by decide) (by decide)) (zz_lk3 (hd _ _ (by decide) (by decide) (by decide)) (by assumption)) | (simp only [zz_up]; simp_all; done)) rfl in_X2 0 rfl q1230 (fun _ h => h) (by first | rfl | assumption) dX2_isFitting_102 ?_
            refine zz_iload_n C dX2_isFitting_105 rfl ?_
            refine zz_bipush (v := nI 6) C dX2_isFitting_106 (by decide) ?_
            refine zz_callS C zy_X2_at (ct_X2_at b 6 hv1 rfl) rfl q1310 rfl rfl rfl rfl rfl dX2_isFitting_108 ⟨Nat.le_of_ble_eq_true rfl, Nat.le_of_ble_eq_true rfl⟩ (fun v hz hp => ?_)
            obtain ⟨rfl, ez⟩ := hp
            obtain rfl := ez.symm
            refine zz_iald C (by first | assumption | exact zz_us | exact zz_lk1 (by assumption) (by assumption) | exact zz_lk3 (hd _ _ (by decide) (by decide) (by decide)) (by assumption) | exact zz_uf (by assumption) (by assumption) | exact zz_lk3 (zz_xi (by assumption) (by assumption)) (zz_lk1 (by assumption) (by assumption)) | exact zz_lk3 (hd _ _ (by decide) (by decide) (by decide)) (zz_lk3 (hd _ _ (by decide) (by decide) (by decide)) (by assumption)) | (simp only [zz_up]; simp_all; done)) rfl (by omega) (by omega) dX2_isFitting_111 ?_
            first | refine zz_ifb_ne (tgt := 135) C dX2_isFitting_112 (by decide) (fun c112 => ?_) (fun c112 => ?_) | refine zz_if_ne (tgt := 135) C dX2_isFitting_112 (by decide) (fun c112 => ?_) (fun c112 => ?_)
            · refine zz_iconst (v := 0) C dX2_isFitting_135 (by decide) ?_
              refine zz_zret0 C (zz_narZ (by first | exact zz_b01 _ | decide | assumption)) dX2_isFitting_136 rfl rfl ?_
              first
              | (refine ⟨g, ?_, rfl⟩; unfold qa_isf; first | (rw [c98, decide_eq_true c112, decide_eq_true c128] <;> rfl) | (rw [c98, decide_eq_true c112, decide_eq_false c128] <;> rfl))
              | (refine ⟨so, ?_, (zz_upsame h6).symm⟩; unfold qa_isf; first | (rw [c98, decide_eq_false c112] <;> rfl) | (rw [c98] <;> rfl))
            · first | refine zz_aload_n C dX2_isFitting_115 rfl ?_ | refine zz_aload_nN C dX2_isFitting_115 rfl ?_
              refine zz_iload_n C dX2_isFitting_116 rfl ?_
              refine zz_iload C dX2_isFitting_117 rfl ?_
              refine zz_iload C dX2_isFitting_119 rfl ?_
              refine zz_iload C dX2_isFitting_121 rfl ?_
              refine zz_callV C zy_X2_excess (ct_X2_excess o hv0 ho hX) rfl q1372 (by first | assumption | exact zz_us | exact zz_lk1 (by assumption) (by assumption) | exact zz_lk3 (hd _ _ (by decide) (by decide) (by decide)) (by assumption) | exact zz_uf (by assumption) (by assumption) | exact zz_lk3 (zz_xi (by assumption) (by assumption)) (zz_lk1 (by assumption) (by assumption)) | exact zz_lk3 (hd _ _ (by decide) (by decide) (by decide)) (zz_lk3 (hd _ _ (by decide) (by decide) (by decide)) (by assumption)) | (simp only [zz_up]; simp_all; done)) rfl rfl rfl rfl rfl rfl dX2_isFitting_123 ⟨Nat.le_of_ble_eq_true rfl, Nat.le_of_ble_eq_true rfl⟩ (fun v hz hp => ?_)
              obtain ⟨g, rfl, ez⟩ := hp
              obtain rfl := ez.symm
              refine zz_bipush (v := (-6)) C dX2_isFitting_126 (by decide) ?_
              refine zz_icmp_eq (tgt := 135) C dX2_isFitting_128 (by decide) (fun c128 => ?_) (fun c128 => ?_)
              · refine zz_iconst (v := 0) C dX2_isFitting_135 (by decide) ?_
                refine zz_zret0 C (zz_narZ (by first | exact zz_b01 _ | decide | assumption)) dX2_isFitting_136 rfl rfl ?_
                first
                | (refine ⟨g, ?_, rfl⟩; unfold qa_isf; first | (rw [c98, decide_eq_true c112, decide_eq_true c128] <;> rfl) | (rw [c98, decide_eq_true c112, decide_eq_false c128] <;> rfl))
                | (refine ⟨so, ?_, (zz_upsame h6).symm⟩; unfold qa_isf; first | (rw [c98, decide_eq_false c112] <;> rfl) | (rw [c98] <;> rfl))
              · refine zz_iconst (v := 1) C dX2_isFitting_131 (by decide) ?_
                refine zz_goto (tgt := 136) C dX2_isFitting_132 (by decide) ?_
                refine zz_zret0 C (zz_narZ (by first | exact zz_b01 _ | decide | assumption)) dX2_isFitting_136 rfl rfl ?_
                first
                | (refine ⟨g, ?_, rfl⟩; unfold qa_isf; first | (rw [c98, decide_eq_true c112, decide_eq_true c128] <;> rfl) | (rw [c98, decide_eq_true c112, decide_eq_false c128] <;> rfl))
                | (refine ⟨so, ?_, (zz_upsame h6).symm⟩; unfold qa_isf; first | (rw [c98, decide_eq_false c112] <;> rfl) | (rw [c98] <;> rfl))
        · intro J94
          first | refine zz_aload_n C dX2_isFitting_65 rfl ?_ | refine zz_aload_nN C dX2_isFitting_65 rfl ?_
          refine zz_get C rfl (by first | assumption | exact zz_us | exact zz_lk1 (by assumption) (by assumption) | exact zz_lk3 (hd _ _ (by decide) (by decide) (by decide)) (by assumption) | exact zz_uf (by assumption) (by assumption) | exact zz_lk3 (zz_xi (by assumption) (by assumption)) (zz_lk1 (by assumption) (by assumption)) | exact zz_lk3 (hd _ _ (by decide) (by decide) (by decide)) (zz_lk3 (hd _ _ (by decide) (by decide) (by decide)) (by assumption)) | (simp only [zz_up]; simp_all; done)) rfl in_X2 0 rfl q1230 (fun _ h => h) (by first | rfl | assumption) dX2_isFitting_66 ?_
          refine zz_iload_n C dX2_isFitting_69 rfl ?_
          refine zz_iload_n C dX2_isFitting_70 rfl ?_
          refine zz_callS C zy_X2_at (ct_X2_at b k hv1 hv2) rfl q1310 rfl rfl rfl rfl rfl dX2_isFitting_71 ⟨Nat.le_of_ble_eq_true rfl, Nat.le_of_ble_eq_true rfl⟩ (fun v hz hp => ?_)
          obtain ⟨rfl, ez⟩ := hp
          obtain rfl := ez.symm
          refine zz_iald C (by first | assumption | exact zz_us | exact zz_lk1 (by assumption) (by assumption) | exact zz_lk3 (hd _ _ (by decide) (by decide) (by decide)) (by assumption) | exact zz_uf (by assumption) (by assumption) | exact zz_lk3 (zz_xi (by assumption) (by assumption)) (zz_lk1 (by assumption) (by assumption)) | exact zz_lk3 (hd _ _ (by decide) (by decide) (by decide)) (zz_lk3 (hd _ _ (by decide) (by decide) (by decide)) (by assumption)) | (simp only [zz_up]; simp_all; done)) rfl (by omega) (by omega) dX2_isFitting_74 ?_
          refine zz_iload C dX2_isFitting_75 rfl ?_
          refine zz_isub C dX2_isFitting_77 ?_
          first | refine zz_aload_n C dX2_isFitting_78 rfl ?_ | refine zz_aload_nN C dX2_isFitting_78 rfl ?_
          refine zz_get C rfl (by first | assumption | exact zz_us | exact zz_lk1 (by assumption) (by assumption) | exact zz_lk3 (hd _ _ (by decide) (by decide) (by decide)) (by assumption) | exact zz_uf (by assumption) (by assumption) | exact zz_lk3 (zz_xi (by assumption) (by assumption)) (zz_lk1 (by assumption) (by assumption)) | exact zz_lk3 (hd _ _ (by decide) (by decide) (by decide)) (zz_lk3 (hd _ _ (by decide) (by decide) (by decide)) (by assumption)) | (simp only [zz_up]; simp_all; done)) rfl in_X2 0 rfl q1230 (fun _ h => h) (by first | rfl | assumption) dX2_isFitting_79 ?_
          refine zz_iconst (v := nI 0) C dX2_isFitting_82 (by decide) ?_
          refine zz_iald C (by first | assumption | exact zz_us | exact zz_lk1 (by assumption) (by assumption) | exact zz_lk3 (hd _ _ (by decide) (by decide) (by decide)) (by assumption) | exact zz_uf (by assumption) (by assumption) | exact zz_lk3 (zz_xi (by assumption) (by assumption)) (zz_lk1 (by assumption) (by assumption)) | exact zz_lk3 (hd _ _ (by decide) (by decide) (by decide)) (zz_lk3 (hd _ _ (by decide) (by decide) (by decide)) (by assumption)) | (simp only [zz_up]; simp_all; done)) rfl (by omega) (by omega) dX2_isFitting_83 ?_
          refine zz_isub C dX2_isFitting_84 ?_
          refine zz_iconst (v := 1) C dX2_isFitting_85 (by decide) ?_
          refine zz_icmp_lt (tgt := 93) C dX2_isFitting_86 (by decide) (fun c86 => ?_) (fun c86 => ?_)
          · refine zz_iconst (v := 0) C dX2_isFitting_93 (by decide) ?_
            exact J94 _ (by unfold qa_rest; first | exact zz_bt (decide_eq_true (Int32.not_lt.mp ‹_›)) | exact zz_bf (decide_eq_false (Int32.not_le.mpr ‹_›)))
          · refine zz_iconst (v := 1) C dX2_isFitting_89 (by decide) ?_
            refine zz_goto (tgt := 94) C dX2_isFitting_90 (by decide) ?_
            exact J94 _ (by unfold qa_rest; first | exact zz_bt (decide_eq_true (Int32.not_lt.mp ‹_›)) | exact zz_bf (decide_eq_false (Int32.not_le.mpr ‹_›)))
      · intro J63
        refine zz_iload_n C dX2_isFitting_43 rfl ?_
        refine zz_iconst (v := 2) C dX2_isFitting_44 (by decide) ?_
        refine zz_icmp_ne (tgt := 53) C dX2_isFitting_45 (by decide) (fun c45 => ?_) (fun c45 => ?_)
        · first | refine zz_aload_n C dX2_isFitting_53 rfl ?_ | refine zz_aload_nN C dX2_isFitting_53 rfl ?_
          refine zz_get C rfl (by first | assumption | exact zz_us | exact zz_lk1 (by assumption) (by assumption) | exact zz_lk3 (hd _ _ (by decide) (by decide) (by decide)) (by assumption) | exact zz_uf (by assumption) (by assumption) | exact zz_lk3 (zz_xi (by assumption) (by assumption)) (zz_lk1 (by assumption) (by assumption)) | exact zz_lk3 (hd _ _ (by decide) (by decide) (by decide)) (zz_lk3 (hd _ _ (by decide) (by decide) (by decide)) (by assumption)) | (simp only [zz_up]; simp_all; done)) rfl in_X2 0 rfl q1230 (fun _ h => h) (by first | rfl | assumption) dX2_isFitting_54 ?_
          refine zz_iload_n C dX2_isFitting_57 rfl ?_
          refine zz_iconst (v := nI 2) C dX2_isFitting_58 (by decide) ?_
          refine zz_callS C zy_X2_at (ct_X2_at b 2 hv1 rfl) rfl q1310 rfl rfl rfl rfl rfl dX2_isFitting_59 ⟨Nat.le_of_ble_eq_true rfl, Nat.le_of_ble_eq_true rfl⟩ (fun v hz hp => ?_)
          obtain ⟨rfl, ez⟩ := hp
          obtain rfl := ez.symm
          refine zz_iald C (by first | assumption | exact zz_us | exact zz_lk1 (by assumption) (by assumption) | exact zz_lk3 (hd _ _ (by decide) (by decide) (by decide)) (by assumption) | exact zz_uf (by assumption) (by assumption) | exact zz_lk3 (zz_xi (by assumption) (by assumption)) (zz_lk1 (by assumption) (by assumption)) | exact zz_lk3 (hd _ _ (by decide) (by decide) (by decide)) (zz_lk3 (hd _ _ (by decide) (by decide) (by decide)) (by assumption)) | (simp only [zz_up]; simp_all; done)) rfl (by omega) (by omega) dX2_isFitting_62 ?_
          exact J63 _ (by unfold qa_at; first | rw [if_pos (w2.mp c45)] | rw [if_neg (fun q => c45 (w2.mpr q))])
        · refine zz_iload C dX2_isFitting_48 rfl ?_
          refine zz_goto (tgt := 63) C dX2_isFitting_50 (by decide) ?_
          exact J63 _ (by unfold qa_at; first | rw [if_pos (w2.mp c45)] | rw [if_neg (fun q => c45 (w2.mpr q))])
    · intro J41
      refine zz_iload_n C dX2_isFitting_21 rfl ?_
      refine zz_iconst (v := 1) C dX2_isFitting_22 (by decide) ?_
      refine zz_icmp_ne (tgt := 31) C dX2_isFitting_23 (by decide) (fun c23 => ?_) (fun c23 => ?_)
      · first | refine zz_aload_n C dX2_isFitting_31 rfl ?_ | refine zz_aload_nN C dX2_isFitting_31 rfl ?_
        refine zz_get C rfl (by first | assumption | exact zz_us | exact zz_lk1 (by assumption) (by assumption) | exact zz_lk3 (hd _ _ (by decide) (by decide) (by decide)) (by assumption) | exact zz_uf (by assumption) (by assumption) | exact zz_lk3 (zz_xi (by assumption) (by assumption)) (zz_lk1 (by assumption) (by assumption)) | exact zz_lk3 (hd _ _ (by decide) (by decide) (by decide)) (zz_lk3 (hd _ _ (by decide) (by decide) (by decide)) (by assumption)) | (simp only [zz_up]; simp_all; done)) rfl in_X2 0 rfl q1230 (fun _ h => h) (by first | rfl | assumption) dX2_isFitting_32 ?_
        refine zz_iload_n C dX2_isFitting_35 rfl ?_
        refine zz_iconst (v := nI 1) C dX2_isFitting_36 (by decide) ?_
        refine zz_callS C zy_X2_at (ct_X2_at b 1 hv1 rfl) rfl q1310 rfl rfl rfl rfl rfl dX2_isFitting_37 ⟨Nat.le_of_ble_eq_true rfl, Nat.le_of_ble_eq_true rfl⟩ (fun v hz hp => ?_)
        obtain ⟨rfl, ez⟩ := hp
        obtain rfl := ez.symm
        refine zz_iald C (by first | assumption | exact zz_us | exact zz_lk1 (by assumption) (by assumption) | exact zz_lk3 (hd _ _ (by decide) (by decide) (by decide)) (by assumption) | exact zz_uf (by assumption) (by assumption) | exact zz_lk3 (zz_xi (by assumption) (by assumption)) (zz_lk1 (by assumption) (by assumption)) | exact zz_lk3 (hd _ _ (by decide) (by decide) (by decide)) (zz_lk3 (hd _ _ (by decide) (by decide) (by decide)) (by assumption)) | (simp only [zz_up]; simp_all; done)) rfl (by omega) (by omega) dX2_isFitting_40 ?_
        exact J41 _ (by unfold qa_at; first | rw [if_pos (w1.mp c23)] | rw [if_neg (fun q => c23 (w1.mpr q))])
      · refine zz_iload C dX2_isFitting_26 rfl ?_
        refine zz_goto (tgt := 41) C dX2_isFitting_28 (by decide) ?_
        exact J41 _ (by unfold qa_at; first | rw [if_pos (w1.mp c23)] | rw [if_neg (fun q => c23 (w1.mpr q))])
  · intro J19
    refine zz_iload_n C dX2_isFitting_0 rfl ?_
    refine zz_if_ne (tgt := 9) C dX2_isFitting_1 (by decide) (fun c1 => ?_) (fun c1 => ?_)
    · first | refine zz_aload_n C dX2_isFitting_9 rfl ?_ | refine zz_aload_nN C dX2_isFitting_9 rfl ?_
      refine zz_get C rfl (by first | assumption | exact zz_us | exact zz_lk1 (by assumption) (by assumption) | exact zz_lk3 (hd _ _ (by decide) (by decide) (by decide)) (by assumption) | exact zz_uf (by assumption) (by assumption) | exact zz_lk3 (zz_xi (by assumption) (by assumption)) (zz_lk1 (by assumption) (by assumption)) | exact zz_lk3 (hd _ _ (by decide) (by decide) (by decide)) (zz_lk3 (hd _ _ (by decide) (by decide) (by decide)) (by assumption)) | (simp only [zz_up]; simp_all; done)) rfl in_X2 0 rfl q1230 (fun _ h => h) (by first | rfl | assumption) dX2_isFitting_10 ?_
      refine zz_iload_n C dX2_isFitting_13 rfl ?_
      refine zz_iconst (v := nI 0) C dX2_isFitting_14 (by decide) ?_
      refine zz_callS C zy_X2_at (ct_X2_at b 0 hv1 rfl) rfl q1310 rfl rfl rfl rfl rfl dX2_isFitting_15 ⟨Nat.le_of_ble_eq_true rfl, Nat.le_of_ble_eq_true rfl⟩ (fun v hz hp => ?_)
      obtain ⟨rfl, ez⟩ := hp
      obtain rfl := ez.symm
      refine zz_iald C (by first | assumption | exact zz_us | exact zz_lk1 (by assumption) (by assumption) | exact zz_lk3 (hd _ _ (by decide) (by decide) (by decide)) (by assumption) | exact zz_uf (by assumption) (by assumption) | exact zz_lk3 (zz_xi (by assumption) (by assumption)) (zz_lk1 (by assumption) (by assumption)) | exact zz_lk3 (hd _ _ (by decide) (by decide) (by decide)) (zz_lk3 (hd _ _ (by decide) (by decide) (by decide)) (by assumption)) | (simp only [zz_up]; simp_all; done)) rfl (by omega) (by omega) dX2_isFitting_18 ?_
      exact J19 _ (by unfold qa_at; first | rw [if_pos (w0.mp c1)] | rw [if_neg (fun q => c1 (w0.mpr q))])
    · refine zz_iload C dX2_isFitting_4 rfl ?_
      refine zz_goto (tgt := 19) C dX2_isFitting_6 (by decide) ?_
      exact J19 _ (by unfold qa_at; first | rw [if_pos (w0.mp c1)] | rw [if_neg (fun q => c1 (w0.mpr q))])

theorem ct_X2_fittingCut {l : Launch} {D : va_G} {b0 : Nat} {h : zz_H} {x : Nat} {ad : Nat → Nat} {a ah hi : Nat → Int32} {kp : Nat} {sl sv pd : Nat → Int32} {len : Nat} {so : Nat → Int32} {pos wr : Int32} {to : Nat → Int32} {v0 v1 v2 : Int32} (nb : Nat) (h5 : a 5 = nI nb) (hnb : nb ≤ 24) (no : Nat) (h6o : a 6 = nI no) (hno : no ≤ 10) (hX : tw_X D h x ad a ah hi kp sl sv pd len so pos wr to) : zz_Ct l D b0 yX2_fittingCut cX2_fittingCut 5 (some .int) 4 85 0 0 [.ref x, .int v0, .int v1, .int v2] h (fun v h' => v = some (.int (op_fc a v0 v1 v2)) ∧ tw_G D h ad h' a) := by
  refine zz_Ct.of zy_X2_fittingCut.1 rfl ?_
  intro p e s m below meth c C
  have hM := hX.M
  obtain ⟨hx, h0, h1a, h2a, h3a, h4a, h5a, h6, h7, hd⟩ := id hX
  have hd06 : ad 0 ≠ ad 6 := hd 0 6 (by decide) (by decide) (by decide)
  first | refine zz_aload_n C dX2_fittingCut_0 rfl ?_ | refine zz_aload_nN C dX2_fittingCut_0 rfl ?_
  refine zz_iload_n C dX2_fittingCut_1 rfl ?_
  refine zz_callV C zy_X2_isOrder (ct_X2_isOrder hM) rfl q1360 (by first | assumption | exact zz_us | exact zz_lk1 (by assumption) (by assumption) | exact zz_lk3 (hd _ _ (by decide) (by decide) (by decide)) (by assumption) | exact zz_uf (by assumption) (by assumption) | exact zz_lk3 (zz_xi (by assumption) (by assumption)) (zz_lk1 (by assumption) (by assumption)) | exact zz_lk3 (hd _ _ (by decide) (by decide) (by decide)) (zz_lk3 (hd _ _ (by decide) (by decide) (by decide)) (by assumption)) | (simp only [zz_up]; simp_all; done)) rfl rfl rfl rfl rfl rfl dX2_fittingCut_2 ⟨Nat.le_of_ble_eq_true rfl, Nat.le_of_ble_eq_true rfl⟩ (fun v hz hp => ?_)
  obtain ⟨rfl, ez⟩ := hp
  obtain rfl := ez.symm
  first | refine zz_ifb_eq (tgt := 16) C dX2_fittingCut_5 (by decide) (fun c5 => ?_) (fun c5 => ?_) | refine zz_if_eq (tgt := 16) C dX2_fittingCut_5 (by decide) (fun c5 => ?_) (fun c5 => ?_)
  · refine zz_iconst (v := (-1)) C dX2_fittingCut_16 (by decide) ?_
    refine zz_iret C dX2_fittingCut_17 rfl rfl ?_
    refine ⟨?_, ?_⟩
    · unfold op_fc
      first
      | rw [if_pos c5]
      | rw [if_neg (zz_tf c5), if_pos c13]
      | rw [if_neg (zz_tf c5), if_neg (zz_tf c13), if_pos c24]
      | rw [if_neg (zz_tf c5), if_neg (zz_tf c13), if_neg (zz_tf c24), ebn, if_pos c35]
      | (rw [if_neg (zz_tf c5), if_neg (zz_tf c13), if_neg (zz_tf c24), ebn, eon, if_neg (zz_tf c35), eF]
         show some (Value.int _) = some (Value.int (if v2 = 0 then _ else _))
         first | rw [if_neg c76] | (rw [if_pos c76, pk_div (d := 300) (by omega) (by decide) (by decide)]))
      | (rw [if_neg (zz_tf c5), if_neg (zz_tf c13), if_neg (zz_tf c24), ebn, eon, if_neg (zz_tf c35), ← hE]; rfl)
    · first | exact tw_G.same h0 h6 | exact tw_G.of6 h0 hd06 rfl
  · obtain ⟨o, ho, ev⟩ := qa_ix (n := no) (by omega) (by rw [← h6o]; assumption)
    have eon : v0.toNatClampNeg = o := by rw [ev]; exact nI_clamp (by omega)
    first | refine zz_aload_n C dX2_fittingCut_8 rfl ?_ | refine zz_aload_nN C dX2_fittingCut_8 rfl ?_
    refine zz_iload_n C dX2_fittingCut_9 rfl ?_
    refine zz_callV C zy_X2_isBlock (ct_X2_isBlock hM) rfl q1321 (by first | assumption | exact zz_us | exact zz_lk1 (by assumption) (by assumption) | exact zz_lk3 (hd _ _ (by decide) (by decide) (by decide)) (by assumption) | exact zz_uf (by assumption) (by assumption) | exact zz_lk3 (zz_xi (by assumption) (by assumption)) (zz_lk1 (by assumption) (by assumption)) | exact zz_lk3 (hd _ _ (by decide) (by decide) (by decide)) (zz_lk3 (hd _ _ (by decide) (by decide) (by decide)) (by assumption)) | (simp only [zz_up]; simp_all; done)) rfl rfl rfl rfl rfl rfl dX2_fittingCut_10 ⟨Nat.le_of_ble_eq_true rfl, Nat.le_of_ble_eq_true rfl⟩ (fun v hz hp => ?_)
    obtain ⟨rfl, ez⟩ := hp
    obtain rfl := ez.symm
    first | refine zz_ifb_ne (tgt := 18) C dX2_fittingCut_13 (by decide) (fun c13 => ?_) (fun c13 => ?_) | refine zz_if_ne (tgt := 18) C dX2_fittingCut_13 (by decide) (fun c13 => ?_) (fun c13 => ?_)
    · obtain ⟨b, hb, evb⟩ := qa_ix (n := nb) (by omega) (by rw [← h5]; assumption)
      have ebn : v1.toNatClampNeg = b := by rw [evb]; exact nI_clamp (by omega)
      refine zz_iload_n C dX2_fittingCut_18 rfl ?_
      refine zz_iconst (v := 0) C dX2_fittingCut_19 (by decide) ?_
      refine zz_iconst (v := 1) C dX2_fittingCut_20 (by decide) ?_
      refine zz_callS C zy_X2_in (ct_X2_in) rfl q1272 rfl rfl rfl rfl rfl dX2_fittingCut_21 ⟨Nat.le_of_ble_eq_true rfl, Nat.le_of_ble_eq_true rfl⟩ (fun v hz hp => ?_)
      obtain ⟨rfl, ez⟩ := hp
      obtain rfl := ez.symm
      first | refine zz_ifb_ne (tgt := 30) C dX2_fittingCut_24 (by decide) (fun c24 => ?_) (fun c24 => ?_) | refine zz_if_ne (tgt := 30) C dX2_fittingCut_24 (by decide) (fun c24 => ?_) (fun c24 => ?_)
      · first | refine zz_aload_n C dX2_fittingCut_30 rfl ?_ | refine zz_aload_nN C dX2_fittingCut_30 rfl ?_
        refine zz_iload_n C dX2_fittingCut_31 rfl ?_
        refine zz_callV C zy_X2_canBeCut (ct_X2_canBeCut b evb (by omega) hM) rfl q1325 (by first | assumption | exact zz_us | exact zz_lk1 (by assumption) (by assumption) | exact zz_lk3 (hd _ _ (by decide) (by decide) (by decide)) (by assumption) | exact zz_uf (by assumption) (by assumption) | exact zz_lk3 (zz_xi (by assumption) (by assumption)) (zz_lk1 (by assumption) (by assumption)) | exact zz_lk3 (hd _ _ (by decide) (by decide) (by decide)) (zz_lk3 (hd _ _ (by decide) (by decide) (by decide)) (by assumption)) | (simp only [zz_up]; simp_all; done)) rfl rfl rfl rfl rfl rfl dX2_fittingCut_32 ⟨Nat.le_of_ble_eq_true rfl, Nat.le_of_ble_eq_true rfl⟩ (fun v hz hp => ?_)
        obtain ⟨rfl, ez⟩ := hp
        obtain rfl := ez.symm
        first | refine zz_ifb_ne (tgt := 41) C dX2_fittingCut_35 (by decide) (fun c35 => ?_) (fun c35 => ?_) | refine zz_if_ne (tgt := 41) C dX2_fittingCut_35 (by decide) (fun c35 => ?_) (fun c35 => ?_)
        · refine zz_iconst (v := 0) C dX2_fittingCut_41 (by decide) ?_
          refine zz_istore C dX2_fittingCut_42 (by decide) ?_
          have L44 : ∀ (n : Nat) (i : Nat) (g : Nat → Int32), i ≤ 900 → 901 ≤ i + n → qa_fst (qa_ff a o b) (900 - i) i = qa_fst (qa_ff a o b) 900 0 → zz_V D b0 5 p l e ({ frames := 4, cells := 0, slots := 0, locals := 85 } : Jvm.Room) s m ([.ref x, .int v0, .int v1, .int v2] : List Value).toArray below meth c (MQ below (zz_Q D b0 (fun v h' => v = some (.int (op_fc a v0 v1 v2)) ∧ tw_G D h ad h' a)) ([.ref x, .int v0, .int v1, .int v2] : List Value).toArray s 0 0 (fun q => b0 ≤ q)) 0 0 (zz_up h (ad 6) (.inl (D.1 100, 3, .inl g))) [(0, .ref x), (1, .int v0), (2, .int v1), (3, .int v2), (4, .int (nI i))] 44 [] := by
            intro n
            induction n with
            | zero =>
              intro i g h1 h2 hE
              exact absurd h2 (by omega)
            | succ n ih =>
              intro i g h1 h2 hE
              refine zz_iload C dX2_fittingCut_44 rfl ?_
              refine zz_sipush (v := 900) C dX2_fittingCut_46 (by decide) ?_
              refine zz_icmp_ge (tgt := 103) C dX2_fittingCut_49 (by decide) (fun c49 => ?_) (fun c49 => ?_)
              · have hi2 : 900 ≤ i := (nI_leI (a := 900) (by omega) (by omega)).mp c49
                obtain rfl : i = 900 := by omega
                refine zz_bipush (v := (-6)) C dX2_fittingCut_103 (by decide) ?_
                refine zz_iret C dX2_fittingCut_105 rfl rfl ?_
                refine ⟨?_, ?_⟩
                · unfold op_fc
                  first
                  | rw [if_pos c5]
                  | rw [if_neg (zz_tf c5), if_pos c13]
                  | rw [if_neg (zz_tf c5), if_neg (zz_tf c13), if_pos c24]
                  | rw [if_neg (zz_tf c5), if_neg (zz_tf c13), if_neg (zz_tf c24), ebn, if_pos c35]
                  | (rw [if_neg (zz_tf c5), if_neg (zz_tf c13), if_neg (zz_tf c24), ebn, eon, if_neg (zz_tf c35), eF]
                     show some (Value.int _) = some (Value.int (if v2 = 0 then _ else _))
                     first | rw [if_neg c76] | (rw [if_pos c76, pk_div (d := 300) (by omega) (by decide) (by decide)]))
                  | (rw [if_neg (zz_tf c5), if_neg (zz_tf c13), if_neg (zz_tf c24), ebn, eon, if_neg (zz_tf c35), ← hE]; rfl)
                · first | exact tw_G.same h0 h6 | exact tw_G.of6 h0 hd06 rfl
              · have hi2 : i < 900 := Nat.not_le.mp (fun q => c49 (nI_le (a := 900) q (by omega)))
                first | refine zz_aload_n C dX2_fittingCut_52 rfl ?_ | refine zz_aload_nN C dX2_fittingCut_52 rfl ?_
                refine zz_iload_n C dX2_fittingCut_53 rfl ?_
                refine zz_iload_n C dX2_fittingCut_54 rfl ?_
                refine zz_iload C dX2_fittingCut_55 rfl ?_
                refine zz_sipush (v := nI 300) C dX2_fittingCut_57 (by decide) ?_
                refine zz_idiv C dX2_fittingCut_60 (by decide) ?_
                refine zz_iconst (v := 1) C dX2_fittingCut_61 (by decide) ?_
                refine zz_iload C dX2_fittingCut_62 rfl ?_
                refine zz_sipush (v := nI 300) C dX2_fittingCut_64 (by decide) ?_
                refine zz_irem C dX2_fittingCut_67 (by decide) ?_
                rw [pk_rem (a := i) (d := 300) (by omega) (by decide) (by decide)]
                refine zz_iadd C dX2_fittingCut_68 ?_
                refine zz_callV C zy_X2_isFitting (ct_X2_isFitting o b (i / 300) ev (by omega) evb (by omega) (pk_div (d := 300) (by omega) (by decide) (by decide)) (by omega) (hX.u6 g)) rfl q1526 (by first | assumption | exact zz_us | exact zz_lk1 (by assumption) (by assumption) | exact zz_lk3 (hd _ _ (by decide) (by decide) (by decide)) (by assumption) | exact zz_uf (by assumption) (by assumption) | exact zz_lk3 (zz_xi (by assumption) (by assumption)) (zz_lk1 (by assumption) (by assumption)) | exact zz_lk3 (hd _ _ (by decide) (by decide) (by decide)) (zz_lk3 (hd _ _ (by decide) (by decide) (by decide)) (by assumption)) | (simp only [zz_up]; simp_all; done)) rfl rfl rfl rfl rfl rfl dX2_fittingCut_69 ⟨Nat.le_of_ble_eq_true rfl, Nat.le_of_ble_eq_true rfl⟩ (fun v hz hp => ?_)
                obtain ⟨g2, rfl, ez⟩ := hp
                rw [zz_upup] at ez
                obtain rfl := ez.symm
                first | refine zz_ifb_eq (tgt := 97) C dX2_fittingCut_72 (by decide) (fun c72 => ?_) (fun c72 => ?_) | refine zz_if_eq (tgt := 97) C dX2_fittingCut_72 (by decide) (fun c72 => ?_) (fun c72 => ?_)
                · have eN : qa_fst (qa_ff a o b) (900 - (i + 1)) (i + 1) = qa_fst (qa_ff a o b) 900 0 := by
                    rw [← hE, show 900 - i = (900 - (i + 1)) + 1 by omega]
                    exact (if_neg (show ¬ qa_ff a o b i = true from by rw [show qa_ff a o b i = false from c72]; decide)).symm
                  refine zz_iinc C dX2_fittingCut_97 rfl (by first | exact nI_1 _ | exact (rfl : _ + Int32.ofInt 1 = _ + 1)) (by decide) ?_
                  refine zz_goto (tgt := 44) C dX2_fittingCut_100 (by decide) ?_
                  exact zz_loc2 (ih (i + 1) _ (by omega) (by omega) eN) ⟨rfl, rfl, rfl, rfl, rfl, trivial⟩
                · have eF : qa_fst (qa_ff a o b) 900 0 = some i := by rw [← hE, show 900 - i = (900 - (i + 1)) + 1 by omega]; exact if_pos c72
                  refine zz_iload_n C dX2_fittingCut_75 rfl ?_
                  refine zz_if_ne (tgt := 88) C dX2_fittingCut_76 (by decide) (fun c76 => ?_) (fun c76 => ?_)
                  · refine zz_iconst (v := 1) C dX2_fittingCut_88 (by decide) ?_
                    refine zz_iload C dX2_fittingCut_89 rfl ?_
                    refine zz_sipush (v := nI 300) C dX2_fittingCut_91 (by decide) ?_
                    refine zz_irem C dX2_fittingCut_94 (by decide) ?_
                    rw [pk_rem (a := i) (d := 300) (by omega) (by decide) (by decide)]
                    refine zz_iadd C dX2_fittingCut_95 ?_
                    refine zz_iret C dX2_fittingCut_96 rfl rfl ?_
                    refine ⟨?_, ?_⟩
                    · unfold op_fc
                      first
                      | rw [if_pos c5]
                      | rw [if_neg (zz_tf c5), if_pos c13]
                      | rw [if_neg (zz_tf c5), if_neg (zz_tf c13), if_pos c24]
                      | rw [if_neg (zz_tf c5), if_neg (zz_tf c13), if_neg (zz_tf c24), ebn, if_pos c35]
                      | (rw [if_neg (zz_tf c5), if_neg (zz_tf c13), if_neg (zz_tf c24), ebn, eon, if_neg (zz_tf c35), eF]
                         show some (Value.int _) = some (Value.int (if v2 = 0 then _ else _))
                         first | rw [if_neg c76] | (rw [if_pos c76, pk_div (d := 300) (by omega) (by decide) (by decide)]))
                      | (rw [if_neg (zz_tf c5), if_neg (zz_tf c13), if_neg (zz_tf c24), ebn, eon, if_neg (zz_tf c35), ← hE]; rfl)
                    · first | exact tw_G.same h0 h6 | exact tw_G.of6 h0 hd06 rfl
                  · refine zz_iload C dX2_fittingCut_79 rfl ?_
                    refine zz_sipush (v := nI 300) C dX2_fittingCut_81 (by decide) ?_
                    refine zz_idiv C dX2_fittingCut_84 (by decide) ?_
                    refine zz_goto (tgt := 96) C dX2_fittingCut_85 (by decide) ?_
                    refine zz_iret C dX2_fittingCut_96 rfl rfl ?_
                    refine ⟨?_, ?_⟩
                    · unfold op_fc
                      first
                      | rw [if_pos c5]
                      | rw [if_neg (zz_tf c5), if_pos c13]
                      | rw [if_neg (zz_tf c5), if_neg (zz_tf c13), if_pos c24]
                      | rw [if_neg (zz_tf c5), if_neg (zz_tf c13), if_neg (zz_tf c24), ebn, if_pos c35]
                      | (rw [if_neg (zz_tf c5), if_neg (zz_tf c13), if_neg (zz_tf c24), ebn, eon, if_neg (zz_tf c35), eF]
                         show some (Value.int _) = some (Value.int (if v2 = 0 then _ else _))
                         first | rw [if_neg c76] | (rw [if_pos c76, pk_div (d := 300) (by omega) (by decide) (by decide)]))
                      | (rw [if_neg (zz_tf c5), if_neg (zz_tf c13), if_neg (zz_tf c24), ebn, eon, if_neg (zz_tf c35), ← hE]; rfl)
                    · first | exact tw_G.same h0 h6 | exact tw_G.of6 h0 hd06 rfl
          have L0 := L44 901 0 so (by omega) (by omega) rfl
          rw [zz_upsame h6] at L0
          exact zz_loc2 L0 ⟨rfl, rfl, rfl, rfl, rfl, trivial⟩
        · refine zz_bipush (v := (-5)) C dX2_fittingCut_38 (by decide) ?_
          refine zz_iret C dX2_fittingCut_40 rfl rfl ?_
          refine ⟨?_, ?_⟩
          · unfold op_fc
            first
            | rw [if_pos c5]
            | rw [if_neg (zz_tf c5), if_pos c13]
            | rw [if_neg (zz_tf c5), if_neg (zz_tf c13), if_pos c24]
            | rw [if_neg (zz_tf c5), if_neg (zz_tf c13), if_neg (zz_tf c24), ebn, if_pos c35]
            | (rw [if_neg (zz_tf c5), if_neg (zz_tf c13), if_neg (zz_tf c24), ebn, eon, if_neg (zz_tf c35), eF]
               show some (Value.int _) = some (Value.int (if v2 = 0 then _ else _))
               first | rw [if_neg c76] | (rw [if_pos c76, pk_div (d := 300) (by omega) (by decide) (by decide)]))
            | (rw [if_neg (zz_tf c5), if_neg (zz_tf c13), if_neg (zz_tf c24), ebn, eon, if_neg (zz_tf c35), ← hE]; rfl)
          · first | exact tw_G.same h0 h6 | exact tw_G.of6 h0 hd06 rfl
      · refine zz_bipush (v := (-2)) C dX2_fittingCut_27 (by decide) ?_
        refine zz_iret C dX2_fittingCut_29 rfl rfl ?_
        refine ⟨?_, ?_⟩
        · unfold op_fc
          first
          | rw [if_pos c5]
          | rw [if_neg (zz_tf c5), if_pos c13]
          | rw [if_neg (zz_tf c5), if_neg (zz_tf c13), if_pos c24]
          | rw [if_neg (zz_tf c5), if_neg (zz_tf c13), if_neg (zz_tf c24), ebn, if_pos c35]
          | (rw [if_neg (zz_tf c5), if_neg (zz_tf c13), if_neg (zz_tf c24), ebn, eon, if_neg (zz_tf c35), eF]
             show some (Value.int _) = some (Value.int (if v2 = 0 then _ else _))
             first | rw [if_neg c76] | (rw [if_pos c76, pk_div (d := 300) (by omega) (by decide) (by decide)]))
          | (rw [if_neg (zz_tf c5), if_neg (zz_tf c13), if_neg (zz_tf c24), ebn, eon, if_neg (zz_tf c35), ← hE]; rfl)
        · first | exact tw_G.same h0 h6 | exact tw_G.of6 h0 hd06 rfl
    · refine zz_iconst (v := (-1)) C dX2_fittingCut_16 (by decide) ?_
      refine zz_iret C dX2_fittingCut_17 rfl rfl ?_
      refine ⟨?_, ?_⟩
      · unfold op_fc
        first
        | rw [if_pos c5]
        | rw [if_neg (zz_tf c5), if_pos c13]
        | rw [if_neg (zz_tf c5), if_neg (zz_tf c13), if_pos c24]
        | rw [if_neg (zz_tf c5), if_neg (zz_tf c13), if_neg (zz_tf c24), ebn, if_pos c35]
        | (rw [if_neg (zz_tf c5), if_neg (zz_tf c13), if_neg (zz_tf c24), ebn, eon, if_neg (zz_tf c35), eF]
           show some (Value.int _) = some (Value.int (if v2 = 0 then _ else _))
           first | rw [if_neg c76] | (rw [if_pos c76, pk_div (d := 300) (by omega) (by decide) (by decide)]))
        | (rw [if_neg (zz_tf c5), if_neg (zz_tf c13), if_neg (zz_tf c24), ebn, eon, if_neg (zz_tf c35), ← hE]; rfl)
      · first | exact tw_G.same h0 h6 | exact tw_G.of6 h0 hd06 rfl

