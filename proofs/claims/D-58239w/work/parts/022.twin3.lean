/-! the twin: what writes its row of three (sorted) -/
theorem ct_X2_sorts {l : Launch} {D : va_G} {b0 : Nat} {h : zz_H} {x : Nat} {ad : Nat → Nat} {a ah hi : Nat → Int32} {kp : Nat} {sl sv pd : Nat → Int32} {len : Nat} {so : Nat → Int32} {pos wr : Int32} {to : Nat → Int32} {v0 v1 v2 : Int32} (hX : tw_X D h x ad a ah hi kp sl sv pd len so pos wr to) : zz_Ct l D b0 yX2_sorts cX2_sorts 6 (none) 0 0 0 0 [.ref x, .int v0, .int v1, .int v2] h (fun v h' => ∃ g : Nat → Int32, (v = none ∧ ∀ k, k < 3 → g k = qa_srt v0 v1 v2 k) ∧ h' = zz_up h (ad 6) (.inl (D.1 100, 3, .inl g))) := by
  refine zz_Ct.of zy_X2_sorts.1 rfl ?_
  intro p e s m below meth c C
  have hM := hX.M
  obtain ⟨hx, h0, h1a, h2a, h3a, h4a, h5a, h6, h7, hd⟩ := id hX
  refine zz_joinI (pcJ := 10) (qa_hi v0 v1) ?_ ?_
  · rintro z10 rfl
    refine zz_istore C dX2_sorts_10 (by decide) ?_
    refine zz_joinI (pcJ := 22) (qa_lw v0 v1) ?_ ?_
    · rintro z22 rfl
      refine zz_istore C dX2_sorts_22 (by decide) ?_
      first | refine zz_aload_n C dX2_sorts_24 rfl ?_ | refine zz_aload_nN C dX2_sorts_24 rfl ?_
      refine zz_get C rfl (by first | assumption | exact zz_us | exact zz_lk1 (by assumption) (by assumption) | exact zz_lk3 (hd _ _ (by decide) (by decide) (by decide)) (by assumption) | exact zz_uf (by assumption) (by assumption) | (simp only [zz_up]; simp_all; done)) rfl in_X2 8 rfl q1238 (fun _ h => h) (by first | rfl | assumption) dX2_sorts_25 ?_
      refine zz_iconst (v := nI 0) C dX2_sorts_28 (by decide) ?_
      refine zz_joinI (pcJ := 41) (qa_s0 v0 v1 v2) ?_ ?_
      · rintro z41 rfl
        first | refine zz_iast2 C rfl (by omega) (by omega) dX2_sorts_41 ?_ | refine zz_iast C (by first | assumption | exact zz_us | exact zz_lk1 (by assumption) (by assumption) | exact zz_lk3 (hd _ _ (by decide) (by decide) (by decide)) (by assumption) | exact zz_uf (by assumption) (by assumption) | (simp only [zz_up]; simp_all; done)) rfl (by omega) (by omega) dX2_sorts_41 ?_
        first | refine zz_aload_n C dX2_sorts_42 rfl ?_ | refine zz_aload_nN C dX2_sorts_42 rfl ?_
        refine zz_get C rfl (by first | assumption | exact zz_us | exact zz_lk1 (by assumption) (by assumption) | exact zz_lk3 (hd _ _ (by decide) (by decide) (by decide)) (by assumption) | exact zz_uf (by assumption) (by assumption) | (simp only [zz_up]; simp_all; done)) rfl in_X2 8 rfl q1238 (fun _ h => h) (by first | rfl | assumption) dX2_sorts_43 ?_
        refine zz_iconst (v := nI 2) C dX2_sorts_46 (by decide) ?_
        refine zz_joinI (pcJ := 59) (qa_s2 v0 v1 v2) ?_ ?_
        · rintro z59 rfl
          first | refine zz_iast2 C rfl (by omega) (by omega) dX2_sorts_59 ?_ | refine zz_iast C (by first | assumption | exact zz_us | exact zz_lk1 (by assumption) (by assumption) | exact zz_lk3 (hd _ _ (by decide) (by decide) (by decide)) (by assumption) | exact zz_uf (by assumption) (by assumption) | (simp only [zz_up]; simp_all; done)) rfl (by omega) (by omega) dX2_sorts_59 ?_
          first | refine zz_aload_n C dX2_sorts_60 rfl ?_ | refine zz_aload_nN C dX2_sorts_60 rfl ?_
          refine zz_get C rfl (by first | assumption | exact zz_us | exact zz_lk1 (by assumption) (by assumption) | exact zz_lk3 (hd _ _ (by decide) (by decide) (by decide)) (by assumption) | exact zz_uf (by assumption) (by assumption) | (simp only [zz_up]; simp_all; done)) rfl in_X2 8 rfl q1238 (fun _ h => h) (by first | rfl | assumption) dX2_sorts_61 ?_
          refine zz_iconst (v := nI 1) C dX2_sorts_64 (by decide) ?_
          refine zz_iload_n C dX2_sorts_65 rfl ?_
          refine zz_iload_n C dX2_sorts_66 rfl ?_
          refine zz_iadd C dX2_sorts_67 ?_
          refine zz_iload_n C dX2_sorts_68 rfl ?_
          refine zz_iadd C dX2_sorts_69 ?_
          first | refine zz_aload_n C dX2_sorts_70 rfl ?_ | refine zz_aload_nN C dX2_sorts_70 rfl ?_
          refine zz_get C rfl (by first | assumption | exact zz_us | exact zz_lk1 (by assumption) (by assumption) | exact zz_lk3 (hd _ _ (by decide) (by decide) (by decide)) (by assumption) | exact zz_uf (by assumption) (by assumption) | (simp only [zz_up]; simp_all; done)) rfl in_X2 8 rfl q1238 (fun _ h => h) (by first | rfl | assumption) dX2_sorts_71 ?_
          refine zz_iconst (v := nI 0) C dX2_sorts_74 (by decide) ?_
          refine zz_iald C (by first | assumption | exact zz_us | exact zz_lk1 (by assumption) (by assumption) | exact zz_lk3 (hd _ _ (by decide) (by decide) (by decide)) (by assumption) | exact zz_uf (by assumption) (by assumption) | (simp only [zz_up]; simp_all; done)) rfl (by omega) (by omega) dX2_sorts_75 ?_
          refine zz_isub C dX2_sorts_76 ?_
          first | refine zz_aload_n C dX2_sorts_77 rfl ?_ | refine zz_aload_nN C dX2_sorts_77 rfl ?_
          refine zz_get C rfl (by first | assumption | exact zz_us | exact zz_lk1 (by assumption) (by assumption) | exact zz_lk3 (hd _ _ (by decide) (by decide) (by decide)) (by assumption) | exact zz_uf (by assumption) (by assumption) | (simp only [zz_up]; simp_all; done)) rfl in_X2 8 rfl q1238 (fun _ h => h) (by first | rfl | assumption) dX2_sorts_78 ?_
          refine zz_iconst (v := nI 2) C dX2_sorts_81 (by decide) ?_
          refine zz_iald C (by first | assumption | exact zz_us | exact zz_lk1 (by assumption) (by assumption) | exact zz_lk3 (hd _ _ (by decide) (by decide) (by decide)) (by assumption) | exact zz_uf (by assumption) (by assumption) | (simp only [zz_up]; simp_all; done)) rfl (by omega) (by omega) dX2_sorts_82 ?_
          refine zz_isub C dX2_sorts_83 ?_
          first | refine zz_iast2 C rfl (by omega) (by omega) dX2_sorts_84 ?_ | refine zz_iast C (by first | assumption | exact zz_us | exact zz_lk1 (by assumption) (by assumption) | exact zz_lk3 (hd _ _ (by decide) (by decide) (by decide)) (by assumption) | exact zz_uf (by assumption) (by assumption) | (simp only [zz_up]; simp_all; done)) rfl (by omega) (by omega) dX2_sorts_84 ?_
          refine zz_vret C dX2_sorts_85 rfl rfl ?_
          refine ⟨_, ⟨rfl, ?_⟩, rfl⟩
          intro k hk
          match k, hk with
          | 0, _ => simp [upd, qa_srt]
          | 1, _ => simp [upd, qa_srt, qa_s1]
          | 2, _ => simp [upd, qa_srt]
        · intro J59
          refine zz_iload_n C dX2_sorts_47 rfl ?_
          refine zz_iload C dX2_sorts_48 rfl ?_
          refine zz_icmp_ge (tgt := 57) C dX2_sorts_50 (by decide) (fun c50 => ?_) (fun c50 => ?_)
          · refine zz_iload C dX2_sorts_57 rfl ?_
            exact J59 _ (by unfold qa_s2; first | exact (if_pos ‹_›).symm | exact (if_neg ‹_›).symm)
          · refine zz_iload_n C dX2_sorts_53 rfl ?_
            refine zz_goto (tgt := 59) C dX2_sorts_54 (by decide) ?_
            exact J59 _ (by unfold qa_s2; first | exact (if_pos ‹_›).symm | exact (if_neg ‹_›).symm)
      · intro J41
        refine zz_iload_n C dX2_sorts_29 rfl ?_
        refine zz_iload C dX2_sorts_30 rfl ?_
        refine zz_icmp_le (tgt := 39) C dX2_sorts_32 (by decide) (fun c32 => ?_) (fun c32 => ?_)
        · refine zz_iload C dX2_sorts_39 rfl ?_
          exact J41 _ (by unfold qa_s0; first | exact (if_pos ‹_›).symm | exact (if_neg ‹_›).symm)
        · refine zz_iload_n C dX2_sorts_35 rfl ?_
          refine zz_goto (tgt := 41) C dX2_sorts_36 (by decide) ?_
          exact J41 _ (by unfold qa_s0; first | exact (if_pos ‹_›).symm | exact (if_neg ‹_›).symm)
    · intro J22
      refine zz_iload_n C dX2_sorts_12 rfl ?_
      refine zz_iload_n C dX2_sorts_13 rfl ?_
      refine zz_icmp_le (tgt := 21) C dX2_sorts_14 (by decide) (fun c14 => ?_) (fun c14 => ?_)
      · refine zz_iload_n C dX2_sorts_21 rfl ?_
        exact J22 _ (by unfold qa_lw; first | exact (if_pos ‹_›).symm | exact (if_neg ‹_›).symm)
      · refine zz_iload_n C dX2_sorts_17 rfl ?_
        refine zz_goto (tgt := 22) C dX2_sorts_18 (by decide) ?_
        exact J22 _ (by unfold qa_lw; first | exact (if_pos ‹_›).symm | exact (if_neg ‹_›).symm)
  · intro J10
    refine zz_iload_n C dX2_sorts_0 rfl ?_
    refine zz_iload_n C dX2_sorts_1 rfl ?_
    refine zz_icmp_le (tgt := 9) C dX2_sorts_2 (by decide) (fun c2 => ?_) (fun c2 => ?_)
    · refine zz_iload_n C dX2_sorts_9 rfl ?_
      exact J10 _ (by unfold qa_hi; first | exact (if_pos ‹_›).symm | exact (if_neg ‹_›).symm)
    · refine zz_iload_n C dX2_sorts_5 rfl ?_
      refine zz_goto (tgt := 10) C dX2_sorts_6 (by decide) ?_
      exact J10 _ (by unfold qa_hi; first | exact (if_pos ‹_›).symm | exact (if_neg ‹_›).symm)

theorem ct_X2_excess {l : Launch} {D : va_G} {b0 : Nat} {h : zz_H} {x : Nat} {ad : Nat → Nat} {a ah hi : Nat → Int32} {kp : Nat} {sl sv pd : Nat → Int32} {len : Nat} {so : Nat → Int32} {pos wr : Int32} {to : Nat → Int32} {v0 v1 v2 v3 : Int32} (o : Nat) (hv0 : v0 = nI o) (ho : o < 10) (hX : tw_X D h x ad a ah hi kp sl sv pd len so pos wr to) : zz_Ct l D b0 yX2_excess cX2_excess 9 (some .int) 1 25 0 0 [.ref x, .int v0, .int v1, .int v2, .int v3] h (fun v h' => ∃ g : Nat → Int32, v = some (.int (qa_exc a o v1 v2 v3)) ∧ h' = zz_up h (ad 6) (.inl (D.1 100, 3, .inl g))) := by
  refine zz_Ct.of zy_X2_excess.1 rfl ?_
  intro p e s m below meth c C
  subst hv0
  have hM := hX.M
  obtain ⟨hx, h0, h1a, h2a, h3a, h4a, h5a, h6, h7, hd⟩ := id hX
  first | refine zz_aload_n C dX2_excess_0 rfl ?_ | refine zz_aload_nN C dX2_excess_0 rfl ?_
  refine zz_iload_n C dX2_excess_1 rfl ?_
  refine zz_iload_n C dX2_excess_2 rfl ?_
  refine zz_iload C dX2_excess_3 rfl ?_
  refine zz_callV C zy_X2_sorts (ct_X2_sorts hX) rfl q1349 (by first | assumption | exact zz_us | exact zz_lk1 (by assumption) (by assumption) | exact zz_lk3 (hd _ _ (by decide) (by decide) (by decide)) (by assumption) | exact zz_uf (by assumption) (by assumption) | (simp only [zz_up]; simp_all; done)) rfl rfl rfl rfl rfl rfl dX2_excess_5 ⟨Nat.le_of_ble_eq_true rfl, Nat.le_of_ble_eq_true rfl⟩ (fun v hz hp => ?_)
  obtain ⟨g, ⟨rfl, hg⟩, e6⟩ := hp
  have hX1 := hX.u6 g
  rw [← e6] at hX1
  clear hX hM hx h0 h1a h2a h3a h4a h5a h6 h7 hd
  have hM := hX1.M
  obtain ⟨hx, h0, h1a, h2a, h3a, h4a, h5a, h6, h7, hd⟩ := id hX1
  refine zz_iconst (v := 0) C dX2_excess_8 (by decide) ?_
  refine zz_istore C dX2_excess_9 (by decide) ?_
  refine zz_iconst (v := 1) C dX2_excess_11 (by decide) ?_
  refine zz_istore C dX2_excess_12 (by decide) ?_
  refine zz_iconst (v := 0) C dX2_excess_14 (by decide) ?_
  refine zz_istore C dX2_excess_15 (by decide) ?_
  have L17 : ∀ (n : Nat) (i : Nat), i ≤ 3 → 4 ≤ i + n → zz_V D b0 9 p l e ({ frames := 1, cells := 0, slots := 0, locals := 25 } : Jvm.Room) s m ([.ref x, .int (nI o), .int v1, .int v2, .int v3] : List Value).toArray below meth c (MQ below (zz_Q D b0 (fun v h' => ∃ g : Nat → Int32, v = some (.int (qa_exc a o v1 v2 v3)) ∧ h' = zz_up h (ad 6) (.inl (D.1 100, 3, .inl g)))) ([.ref x, .int (nI o), .int v1, .int v2, .int v3] : List Value).toArray s 0 0 (fun q => b0 ≤ q)) 0 0 hz [(0, .ref x), (1, .int (nI o)), (5, .int (qa_sum (qa_more a o v1 v2 v3) i)), (6, .int (zz_b (qa_fit a o v1 v2 v3 i))), (7, .int (nI i))] 17 [] := by
    intro n
    induction n with
    | zero =>
      intro i h1 h2
      exact absurd h2 (by omega)
    | succ n ih =>
      intro i h1 h2
      refine zz_iload C dX2_excess_17 rfl ?_
      refine zz_iconst (v := 3) C dX2_excess_19 (by decide) ?_
      refine zz_icmp_ge (tgt := 84) C dX2_excess_20 (by decide) (fun c20 => ?_) (fun c20 => ?_)
      · have hi2 : 3 ≤ i := (nI_leI (a := 3) (by omega) (by omega)).mp c20
        obtain rfl : i = 3 := by omega
        refine zz_iload C dX2_excess_84 rfl ?_
        first | refine zz_ifb_eq (tgt := 94) C dX2_excess_86 (by decide) (fun c86 => ?_) (fun c86 => ?_) | refine zz_if_eq (tgt := 94) C dX2_excess_86 (by decide) (fun c86 => ?_) (fun c86 => ?_)
        · refine zz_bipush (v := (-6)) C dX2_excess_94 (by decide) ?_
          refine zz_iret C dX2_excess_96 rfl rfl ?_
          exact ⟨g, by simp_all [qa_exc], e6⟩
        · refine zz_iload C dX2_excess_89 rfl ?_
          refine zz_goto (tgt := 96) C dX2_excess_91 (by decide) ?_
          refine zz_iret C dX2_excess_96 rfl rfl ?_
          exact ⟨g, by simp_all [qa_exc], e6⟩
      · have hi2 : i < 3 := Nat.not_le.mp (fun q => c20 (nI_le (a := 3) q (by omega)))
        first | refine zz_aload_n C dX2_excess_23 rfl ?_ | refine zz_aload_nN C dX2_excess_23 rfl ?_
        refine zz_get C rfl (by first | assumption | exact zz_us | exact zz_lk1 (by assumption) (by assumption) | exact zz_lk3 (hd _ _ (by decide) (by decide) (by decide)) (by assumption) | exact zz_uf (by assumption) (by assumption) | (simp only [zz_up]; simp_all; done)) rfl in_X2 8 rfl q1238 (fun _ h => h) (by first | rfl | assumption) dX2_excess_24 ?_
        refine zz_iload C dX2_excess_27 rfl ?_
        refine zz_iald C (by first | assumption | exact zz_us | exact zz_lk1 (by assumption) (by assumption) | exact zz_lk3 (hd _ _ (by decide) (by decide) (by decide)) (by assumption) | exact zz_uf (by assumption) (by assumption) | (simp only [zz_up]; simp_all; done)) rfl (by omega) (by omega) dX2_excess_29 ?_
        first | refine zz_aload_n C dX2_excess_30 rfl ?_ | refine zz_aload_nN C dX2_excess_30 rfl ?_
        refine zz_get C rfl (by first | assumption | exact zz_us | exact zz_lk1 (by assumption) (by assumption) | exact zz_lk3 (hd _ _ (by decide) (by decide) (by decide)) (by assumption) | exact zz_uf (by assumption) (by assumption) | (simp only [zz_up]; simp_all; done)) rfl in_X2 0 rfl q1230 (fun _ h => h) (by first | rfl | assumption) dX2_excess_31 ?_
        refine zz_iload_n C dX2_excess_34 rfl ?_
        refine zz_iload C dX2_excess_35 rfl ?_
        refine zz_callS C zy_X2_ofOrderAt (ct_X2_ofOrderAt o i rfl rfl) rfl q1353 rfl rfl rfl rfl rfl dX2_excess_37 ⟨Nat.le_of_ble_eq_true rfl, Nat.le_of_ble_eq_true rfl⟩ (fun v hz hp => ?_)
        obtain ⟨rfl, ez⟩ := hp
        obtain rfl := ez.symm
        refine zz_iald C (by first | assumption | exact zz_us | exact zz_lk1 (by assumption) (by assumption) | exact zz_lk3 (hd _ _ (by decide) (by decide) (by decide)) (by assumption) | exact zz_uf (by assumption) (by assumption) | (simp only [zz_up]; simp_all; done)) rfl (by omega) (by omega) dX2_excess_40 ?_
        refine zz_isub C dX2_excess_41 ?_
        refine zz_istore C dX2_excess_42 (by decide) ?_
        refine zz_iload C dX2_excess_44 rfl ?_
        first | refine zz_ifb_eq (tgt := 68) C dX2_excess_46 (by decide) (fun c46 => ?_) (fun c46 => ?_) | refine zz_if_eq (tgt := 68) C dX2_excess_46 (by decide) (fun c46 => ?_) (fun c46 => ?_)
        · refine zz_iconst (v := 0) C dX2_excess_68 (by decide) ?_
          refine zz_istore C dX2_excess_69 (by decide) ?_
          refine zz_iload C dX2_excess_71 rfl ?_
          refine zz_iload C dX2_excess_73 rfl ?_
          refine zz_iadd C dX2_excess_75 ?_
          refine zz_istore C dX2_excess_76 (by decide) ?_
          refine zz_iinc C dX2_excess_78 rfl (by first | exact nI_1 _ | exact (rfl : _ + Int32.ofInt 1 = _ + 1)) (by decide) ?_
          refine zz_goto (tgt := 17) C dX2_excess_81 (by decide) ?_
          refine zz_loc2 (ih (i + 1) (by omega) (by omega)) ⟨rfl, rfl, ?_, ?_, rfl, trivial⟩
          · show some _ = some _
            clear ih
            simp [qa_sum, qa_more, hg i hi2]
          · show some _ = some _
            clear ih
            have hg2 := hg i hi2
            simp_all [qa_fit, qa_more, zz_b]
        · refine zz_iload C dX2_excess_49 rfl ?_
          refine zz_iconst (v := 0) C dX2_excess_51 (by decide) ?_
          first | refine zz_aload_n C dX2_excess_52 rfl ?_ | refine zz_aload_nN C dX2_excess_52 rfl ?_
          refine zz_get C rfl (by first | assumption | exact zz_us | exact zz_lk1 (by assumption) (by assumption) | exact zz_lk3 (hd _ _ (by decide) (by decide) (by decide)) (by assumption) | exact zz_uf (by assumption) (by assumption) | (simp only [zz_up]; simp_all; done)) rfl in_X2 0 rfl q1230 (fun _ h => h) (by first | rfl | assumption) dX2_excess_53 ?_
          refine zz_iconst (v := nI 3) C dX2_excess_56 (by decide) ?_
          refine zz_iald C (by first | assumption | exact zz_us | exact zz_lk1 (by assumption) (by assumption) | exact zz_lk3 (hd _ _ (by decide) (by decide) (by decide)) (by assumption) | exact zz_uf (by assumption) (by assumption) | (simp only [zz_up]; simp_all; done)) rfl (by omega) (by omega) dX2_excess_57 ?_
          refine zz_callS C zy_X2_in (ct_X2_in) rfl q1272 rfl rfl rfl rfl rfl dX2_excess_58 ⟨Nat.le_of_ble_eq_true rfl, Nat.le_of_ble_eq_true rfl⟩ (fun v hz hp => ?_)
          obtain ⟨rfl, ez⟩ := hp
          obtain rfl := ez.symm
          first | refine zz_ifb_eq (tgt := 68) C dX2_excess_61 (by decide) (fun c61 => ?_) (fun c61 => ?_) | refine zz_if_eq (tgt := 68) C dX2_excess_61 (by decide) (fun c61 => ?_) (fun c61 => ?_)
          · refine zz_iconst (v := 0) C dX2_excess_68 (by decide) ?_
            refine zz_istore C dX2_excess_69 (by decide) ?_
            refine zz_iload C dX2_excess_71 rfl ?_
            refine zz_iload C dX2_excess_73 rfl ?_
            refine zz_iadd C dX2_excess_75 ?_
            refine zz_istore C dX2_excess_76 (by decide) ?_
            refine zz_iinc C dX2_excess_78 rfl (by first | exact nI_1 _ | exact (rfl : _ + Int32.ofInt 1 = _ + 1)) (by decide) ?_
            refine zz_goto (tgt := 17) C dX2_excess_81 (by decide) ?_
            refine zz_loc2 (ih (i + 1) (by omega) (by omega)) ⟨rfl, rfl, ?_, ?_, rfl, trivial⟩
            · show some _ = some _
              clear ih
              simp [qa_sum, qa_more, hg i hi2]
            · show some _ = some _
              clear ih
              have hg2 := hg i hi2
              simp_all [qa_fit, qa_more, zz_b]
          · refine zz_iconst (v := 1) C dX2_excess_64 (by decide) ?_
            refine zz_goto (tgt := 69) C dX2_excess_65 (by decide) ?_
            refine zz_istore C dX2_excess_69 (by decide) ?_
            refine zz_iload C dX2_excess_71 rfl ?_
            refine zz_iload C dX2_excess_73 rfl ?_
            refine zz_iadd C dX2_excess_75 ?_
            refine zz_istore C dX2_excess_76 (by decide) ?_
            refine zz_iinc C dX2_excess_78 rfl (by first | exact nI_1 _ | exact (rfl : _ + Int32.ofInt 1 = _ + 1)) (by decide) ?_
            refine zz_goto (tgt := 17) C dX2_excess_81 (by decide) ?_
            refine zz_loc2 (ih (i + 1) (by omega) (by omega)) ⟨rfl, rfl, ?_, ?_, rfl, trivial⟩
            · show some _ = some _
              clear ih
              simp [qa_sum, qa_more, hg i hi2]
            · show some _ = some _
              clear ih
              have hg2 := hg i hi2
              simp_all [qa_fit, qa_more, zz_b]
  exact zz_loc2 (L17 4 0 (by omega) (by omega)) ⟨rfl, rfl, rfl, rfl, rfl, trivial⟩

theorem ct_X2_excessOf {l : Launch} {D : va_G} {b0 : Nat} {h : zz_H} {x : Nat} {ad : Nat → Nat} {a ah hi : Nat → Int32} {kp : Nat} {sl sv pd : Nat → Int32} {len : Nat} {so : Nat → Int32} {pos wr : Int32} {to : Nat → Int32} {v0 v1 : Int32} (o b : Nat) (hv0 : v0 = nI o) (ho : o < 10) (hv1 : v1 = nI b) (hb : b < 24) (hX : tw_X D h x ad a ah hi kp sl sv pd len so pos wr to) : zz_Ct l D b0 yX2_excessOf cX2_excessOf 3 (some .int) 2 53 0 0 [.ref x, .int v0, .int v1] h (fun v h' => ∃ g : Nat → Int32, v = some (.int (qa_excOf a o b)) ∧ h' = zz_up h (ad 6) (.inl (D.1 100, 3, .inl g))) := by
  refine zz_Ct.of zy_X2_excessOf.1 rfl ?_
  intro p e s m below meth c C
  subst hv0 hv1
  have hM := hX.M
  obtain ⟨hx, h0, h1a, h2a, h3a, h4a, h5a, h6, h7, hd⟩ := id hX
  first | refine zz_aload_n C dX2_excessOf_0 rfl ?_ | refine zz_aload_nN C dX2_excessOf_0 rfl ?_
  refine zz_get C rfl (by first | assumption | exact zz_us | exact zz_lk1 (by assumption) (by assumption) | exact zz_lk3 (hd _ _ (by decide) (by decide) (by decide)) (by assumption) | exact zz_uf (by assumption) (by assumption) | (simp only [zz_up]; simp_all; done)) rfl in_X2 0 rfl q1230 (fun _ h => h) (by first | rfl | assumption) dX2_excessOf_1 ?_
  refine zz_iload_n C dX2_excessOf_4 rfl ?_
  refine zz_bipush (v := nI 6) C dX2_excessOf_5 (by decide) ?_
  refine zz_callS C zy_X2_at (ct_X2_at _ _ rfl rfl) rfl q1310 rfl rfl rfl rfl rfl dX2_excessOf_7 ⟨Nat.le_of_ble_eq_true rfl, Nat.le_of_ble_eq_true rfl⟩ (fun v hz hp => ?_)
  obtain ⟨rfl, ez⟩ := hp
  obtain rfl := ez.symm
  refine zz_iald C (by first | assumption | exact zz_us | exact zz_lk1 (by assumption) (by assumption) | exact zz_lk3 (hd _ _ (by decide) (by decide) (by decide)) (by assumption) | exact zz_uf (by assumption) (by assumption) | (simp only [zz_up]; simp_all; done)) rfl (by omega) (by omega) dX2_excessOf_10 ?_
  refine zz_iconst (v := 1) C dX2_excessOf_11 (by decide) ?_
  refine zz_icmp_ne (tgt := 20) C dX2_excessOf_12 (by decide) (fun c12 => ?_) (fun c12 => ?_)
  · first | refine zz_aload_n C dX2_excessOf_20 rfl ?_ | refine zz_aload_nN C dX2_excessOf_20 rfl ?_
    refine zz_iload_n C dX2_excessOf_21 rfl ?_
    first | refine zz_aload_n C dX2_excessOf_22 rfl ?_ | refine zz_aload_nN C dX2_excessOf_22 rfl ?_
    refine zz_get C rfl (by first | assumption | exact zz_us | exact zz_lk1 (by assumption) (by assumption) | exact zz_lk3 (hd _ _ (by decide) (by decide) (by decide)) (by assumption) | exact zz_uf (by assumption) (by assumption) | (simp only [zz_up]; simp_all; done)) rfl in_X2 0 rfl q1230 (fun _ h => h) (by first | rfl | assumption) dX2_excessOf_23 ?_
    refine zz_iload_n C dX2_excessOf_26 rfl ?_
    refine zz_iconst (v := nI 0) C dX2_excessOf_27 (by decide) ?_
    refine zz_callS C zy_X2_at (ct_X2_at _ _ rfl rfl) rfl q1310 rfl rfl rfl rfl rfl dX2_excessOf_28 ⟨Nat.le_of_ble_eq_true rfl, Nat.le_of_ble_eq_true rfl⟩ (fun v hz hp => ?_)
    obtain ⟨rfl, ez⟩ := hp
    obtain rfl := ez.symm
    refine zz_iald C (by first | assumption | exact zz_us | exact zz_lk1 (by assumption) (by assumption) | exact zz_lk3 (hd _ _ (by decide) (by decide) (by decide)) (by assumption) | exact zz_uf (by assumption) (by assumption) | (simp only [zz_up]; simp_all; done)) rfl (by omega) (by omega) dX2_excessOf_31 ?_
    first | refine zz_aload_n C dX2_excessOf_32 rfl ?_ | refine zz_aload_nN C dX2_excessOf_32 rfl ?_
    refine zz_get C rfl (by first | assumption | exact zz_us | exact zz_lk1 (by assumption) (by assumption) | exact zz_lk3 (hd _ _ (by decide) (by decide) (by decide)) (by assumption) | exact zz_uf (by assumption) (by assumption) | (simp only [zz_up]; simp_all; done)) rfl in_X2 0 rfl q1230 (fun _ h => h) (by first | rfl | assumption) dX2_excessOf_33 ?_
    refine zz_iload_n C dX2_excessOf_36 rfl ?_
    refine zz_iconst (v := nI 1) C dX2_excessOf_37 (by decide) ?_
    refine zz_callS C zy_X2_at (ct_X2_at _ _ rfl rfl) rfl q1310 rfl rfl rfl rfl rfl dX2_excessOf_38 ⟨Nat.le_of_ble_eq_true rfl, Nat.le_of_ble_eq_true rfl⟩ (fun v hz hp => ?_)
    obtain ⟨rfl, ez⟩ := hp
    obtain rfl := ez.symm
    refine zz_iald C (by first | assumption | exact zz_us | exact zz_lk1 (by assumption) (by assumption) | exact zz_lk3 (hd _ _ (by decide) (by decide) (by decide)) (by assumption) | exact zz_uf (by assumption) (by assumption) | (simp only [zz_up]; simp_all; done)) rfl (by omega) (by omega) dX2_excessOf_41 ?_
    first | refine zz_aload_n C dX2_excessOf_42 rfl ?_ | refine zz_aload_nN C dX2_excessOf_42 rfl ?_
    refine zz_get C rfl (by first | assumption | exact zz_us | exact zz_lk1 (by assumption) (by assumption) | exact zz_lk3 (hd _ _ (by decide) (by decide) (by decide)) (by assumption) | exact zz_uf (by assumption) (by assumption) | (simp only [zz_up]; simp_all; done)) rfl in_X2 0 rfl q1230 (fun _ h => h) (by first | rfl | assumption) dX2_excessOf_43 ?_
    refine zz_iload_n C dX2_excessOf_46 rfl ?_
    refine zz_iconst (v := nI 2) C dX2_excessOf_47 (by decide) ?_
    refine zz_callS C zy_X2_at (ct_X2_at _ _ rfl rfl) rfl q1310 rfl rfl rfl rfl rfl dX2_excessOf_48 ⟨Nat.le_of_ble_eq_true rfl, Nat.le_of_ble_eq_true rfl⟩ (fun v hz hp => ?_)
    obtain ⟨rfl, ez⟩ := hp
    obtain rfl := ez.symm
    refine zz_iald C (by first | assumption | exact zz_us | exact zz_lk1 (by assumption) (by assumption) | exact zz_lk3 (hd _ _ (by decide) (by decide) (by decide)) (by assumption) | exact zz_uf (by assumption) (by assumption) | (simp only [zz_up]; simp_all; done)) rfl (by omega) (by omega) dX2_excessOf_51 ?_
    refine zz_callV C zy_X2_excess (ct_X2_excess o rfl ho hX) rfl q1372 (by first | assumption | exact zz_us | exact zz_lk1 (by assumption) (by assumption) | exact zz_lk3 (hd _ _ (by decide) (by decide) (by decide)) (by assumption) | exact zz_uf (by assumption) (by assumption) | (simp only [zz_up]; simp_all; done)) rfl rfl rfl rfl rfl rfl dX2_excessOf_52 ⟨Nat.le_of_ble_eq_true rfl, Nat.le_of_ble_eq_true rfl⟩ (fun v hz hp => ?_)
    obtain ⟨g, rfl, ez⟩ := hp
    obtain rfl := ez.symm
    refine zz_iret C dX2_excessOf_55 rfl rfl ?_
    first | exact ⟨g, by simp_all [qa_excOf], rfl⟩ | exact ⟨so, by simp_all [qa_excOf], (zz_upsame h6).symm⟩
  · refine zz_bipush (v := (-6)) C dX2_excessOf_15 (by decide) ?_
    refine zz_goto (tgt := 55) C dX2_excessOf_17 (by decide) ?_
    refine zz_iret C dX2_excessOf_55 rfl rfl ?_
    first | exact ⟨g, by simp_all [qa_excOf], rfl⟩ | exact ⟨so, by simp_all [qa_excOf], (zz_upsame h6).symm⟩

theorem ct_X2_canGive {l : Launch} {D : va_G} {b0 : Nat} {h : zz_H} {x : Nat} {ad : Nat → Nat} {a ah hi : Nat → Int32} {kp : Nat} {sl sv pd : Nat → Int32} {len : Nat} {so : Nat → Int32} {pos wr : Int32} {to : Nat → Int32} {v0 v1 : Int32} (o b : Nat) (hv0 : v0 = nI o) (ho : o < 10) (hv1 : v1 = nI b) (hb : b < 24) (hX : tw_X D h x ad a ah hi kp sl sv pd len so pos wr to) : zz_Ct l D b0 yX2_canGive cX2_canGive 4 (some .boolean) 3 75 0 0 [.ref x, .int v0, .int v1] h (fun v h' => ∃ g : Nat → Int32, v = some (.int (zz_b (qa_can a o b))) ∧ h' = zz_up h (ad 6) (.inl (D.1 100, 3, .inl g))) := by
  refine zz_Ct.of zy_X2_canGive.1 rfl ?_
  intro p e s m below meth c C
  subst hv0 hv1
  have hM := hX.M
  obtain ⟨hx, h0, h1a, h2a, h3a, h4a, h5a, h6, h7, hd⟩ := id hX
  refine zz_joinI (pcJ := 39) (zz_b (qa_free a b)) ?_ ?_
  · rintro z39 rfl
    refine zz_istore_n C dX2_canGive_39 (by decide) ?_
    first | refine zz_aload_n C dX2_canGive_40 rfl ?_ | refine zz_aload_nN C dX2_canGive_40 rfl ?_
    refine zz_get C rfl (by first | assumption | exact zz_us | exact zz_lk1 (by assumption) (by assumption) | exact zz_lk3 (hd _ _ (by decide) (by decide) (by decide)) (by assumption) | exact zz_uf (by assumption) (by assumption) | (simp only [zz_up]; simp_all; done)) rfl in_X2 0 rfl q1230 (fun _ h => h) (by first | rfl | assumption) dX2_canGive_41 ?_
    refine zz_iload_n C dX2_canGive_44 rfl ?_
    refine zz_iconst (v := nI 3) C dX2_canGive_45 (by decide) ?_
    refine zz_callS C zy_X2_ofOrderAt (ct_X2_ofOrderAt _ _ rfl rfl) rfl q1353 rfl rfl rfl rfl rfl dX2_canGive_46 ⟨Nat.le_of_ble_eq_true rfl, Nat.le_of_ble_eq_true rfl⟩ (fun v hz hp => ?_)
    obtain ⟨rfl, ez⟩ := hp
    obtain rfl := ez.symm
    refine zz_iald C (by first | assumption | exact zz_us | exact zz_lk1 (by assumption) (by assumption) | exact zz_lk3 (hd _ _ (by decide) (by decide) (by decide)) (by assumption) | exact zz_uf (by assumption) (by assumption) | (simp only [zz_up]; simp_all; done)) rfl (by omega) (by omega) dX2_canGive_49 ?_
    first | refine zz_ifb_ne (tgt := 72) C dX2_canGive_50 (by decide) (fun c50 => ?_) (fun c50 => ?_) | refine zz_if_ne (tgt := 72) C dX2_canGive_50 (by decide) (fun c50 => ?_) (fun c50 => ?_)
    · refine zz_iconst (v := 0) C dX2_canGive_72 (by decide) ?_
      refine zz_zret0 C (zz_narZ (by first | exact zz_b01 _ | decide | assumption)) dX2_canGive_73 rfl rfl ?_
      first | exact ⟨g, by simp_all [qa_can, zz_b], rfl⟩ | exact ⟨so, by simp_all [qa_can, zz_b], (zz_upsame h6).symm⟩
    · refine zz_iload_n C dX2_canGive_53 rfl ?_
      first | refine zz_ifb_eq (tgt := 72) C dX2_canGive_54 (by decide) (fun c54 => ?_) (fun c54 => ?_) | refine zz_if_eq (tgt := 72) C dX2_canGive_54 (by decide) (fun c54 => ?_) (fun c54 => ?_)
      · refine zz_iconst (v := 0) C dX2_canGive_72 (by decide) ?_
        refine zz_zret0 C (zz_narZ (by first | exact zz_b01 _ | decide | assumption)) dX2_canGive_73 rfl rfl ?_
        first | exact ⟨g, by simp_all [qa_can, zz_b], rfl⟩ | exact ⟨so, by simp_all [qa_can, zz_b], (zz_upsame h6).symm⟩
      · first | refine zz_aload_n C dX2_canGive_57 rfl ?_ | refine zz_aload_nN C dX2_canGive_57 rfl ?_
        refine zz_iload_n C dX2_canGive_58 rfl ?_
        refine zz_iload_n C dX2_canGive_59 rfl ?_
        refine zz_callV C zy_X2_excessOf (ct_X2_excessOf o b rfl ho rfl hb hX) rfl q1368 (by first | assumption | exact zz_us | exact zz_lk1 (by assumption) (by assumption) | exact zz_lk3 (hd _ _ (by decide) (by decide) (by decide)) (by assumption) | exact zz_uf (by assumption) (by assumption) | (simp only [zz_up]; simp_all; done)) rfl rfl rfl rfl rfl rfl dX2_canGive_60 ⟨Nat.le_of_ble_eq_true rfl, Nat.le_of_ble_eq_true rfl⟩ (fun v hz hp => ?_)
        obtain ⟨g, rfl, ez⟩ := hp
        obtain rfl := ez.symm
        refine zz_bipush (v := (-6)) C dX2_canGive_63 (by decide) ?_
        refine zz_icmp_eq (tgt := 72) C dX2_canGive_65 (by decide) (fun c65 => ?_) (fun c65 => ?_)
        · refine zz_iconst (v := 0) C dX2_canGive_72 (by decide) ?_
          refine zz_zret0 C (zz_narZ (by first | exact zz_b01 _ | decide | assumption)) dX2_canGive_73 rfl rfl ?_
          first | exact ⟨g, by simp_all [qa_can, zz_b], rfl⟩ | exact ⟨so, by simp_all [qa_can, zz_b], (zz_upsame h6).symm⟩
        · refine zz_iconst (v := 1) C dX2_canGive_68 (by decide) ?_
          refine zz_goto (tgt := 73) C dX2_canGive_69 (by decide) ?_
          refine zz_zret0 C (zz_narZ (by first | exact zz_b01 _ | decide | assumption)) dX2_canGive_73 rfl rfl ?_
          first | exact ⟨g, by simp_all [qa_can, zz_b], rfl⟩ | exact ⟨so, by simp_all [qa_can, zz_b], (zz_upsame h6).symm⟩
  · intro J39
    first | refine zz_aload_n C dX2_canGive_0 rfl ?_ | refine zz_aload_nN C dX2_canGive_0 rfl ?_
    refine zz_get C rfl (by first | assumption | exact zz_us | exact zz_lk1 (by assumption) (by assumption) | exact zz_lk3 (hd _ _ (by decide) (by decide) (by decide)) (by assumption) | exact zz_uf (by assumption) (by assumption) | (simp only [zz_up]; simp_all; done)) rfl in_X2 0 rfl q1230 (fun _ h => h) (by first | rfl | assumption) dX2_canGive_1 ?_
    refine zz_iload_n C dX2_canGive_4 rfl ?_
    refine zz_bipush (v := nI 7) C dX2_canGive_5 (by decide) ?_
    refine zz_callS C zy_X2_at (ct_X2_at _ _ rfl rfl) rfl q1310 rfl rfl rfl rfl rfl dX2_canGive_7 ⟨Nat.le_of_ble_eq_true rfl, Nat.le_of_ble_eq_true rfl⟩ (fun v hz hp => ?_)
    obtain ⟨rfl, ez⟩ := hp
    obtain rfl := ez.symm
    refine zz_iald C (by first | assumption | exact zz_us | exact zz_lk1 (by assumption) (by assumption) | exact zz_lk3 (hd _ _ (by decide) (by decide) (by decide)) (by assumption) | exact zz_uf (by assumption) (by assumption) | (simp only [zz_up]; simp_all; done)) rfl (by omega) (by omega) dX2_canGive_10 ?_
    refine zz_bipush (v := (-6)) C dX2_canGive_11 (by decide) ?_
    refine zz_icmp_ne (tgt := 38) C dX2_canGive_13 (by decide) (fun c13 => ?_) (fun c13 => ?_)
    · refine zz_iconst (v := 0) C dX2_canGive_38 (by decide) ?_
      exact J39 _ (by first | rfl | (simp_all [zz_b, qa_free]; done))
    · first | refine zz_aload_n C dX2_canGive_16 rfl ?_ | refine zz_aload_nN C dX2_canGive_16 rfl ?_
      refine zz_iload_n C dX2_canGive_17 rfl ?_
      refine zz_iconst (v := 3) C dX2_canGive_18 (by decide) ?_
      refine zz_callV C zy_X2_isAt (ct_X2_isAt b rfl hb hM) rfl q1333 (by first | assumption | exact zz_us | exact zz_lk1 (by assumption) (by assumption) | exact zz_lk3 (hd _ _ (by decide) (by decide) (by decide)) (by assumption) | exact zz_uf (by assumption) (by assumption) | (simp only [zz_up]; simp_all; done)) rfl rfl rfl rfl rfl rfl dX2_canGive_19 ⟨Nat.le_of_ble_eq_true rfl, Nat.le_of_ble_eq_true rfl⟩ (fun v hz hp => ?_)
      obtain ⟨rfl, ez⟩ := hp
      obtain rfl := ez.symm
      first | refine zz_ifb_ne (tgt := 38) C dX2_canGive_22 (by decide) (fun c22 => ?_) (fun c22 => ?_) | refine zz_if_ne (tgt := 38) C dX2_canGive_22 (by decide) (fun c22 => ?_) (fun c22 => ?_)
      · refine zz_iconst (v := 0) C dX2_canGive_38 (by decide) ?_
        exact J39 _ (by first | rfl | (simp_all [zz_b, qa_free]; done))
      · first | refine zz_aload_n C dX2_canGive_25 rfl ?_ | refine zz_aload_nN C dX2_canGive_25 rfl ?_
        refine zz_iload_n C dX2_canGive_26 rfl ?_
        refine zz_iconst (v := 4) C dX2_canGive_27 (by decide) ?_
        refine zz_callV C zy_X2_isAt (ct_X2_isAt b rfl hb hM) rfl q1333 (by first | assumption | exact zz_us | exact zz_lk1 (by assumption) (by assumption) | exact zz_lk3 (hd _ _ (by decide) (by decide) (by decide)) (by assumption) | exact zz_uf (by assumption) (by assumption) | (simp only [zz_up]; simp_all; done)) rfl rfl rfl rfl rfl rfl dX2_canGive_28 ⟨Nat.le_of_ble_eq_true rfl, Nat.le_of_ble_eq_true rfl⟩ (fun v hz hp => ?_)
        obtain ⟨rfl, ez⟩ := hp
        obtain rfl := ez.symm
        first | refine zz_ifb_ne (tgt := 38) C dX2_canGive_31 (by decide) (fun c31 => ?_) (fun c31 => ?_) | refine zz_if_ne (tgt := 38) C dX2_canGive_31 (by decide) (fun c31 => ?_) (fun c31 => ?_)
        · refine zz_iconst (v := 0) C dX2_canGive_38 (by decide) ?_
          exact J39 _ (by first | rfl | (simp_all [zz_b, qa_free]; done))
        · refine zz_iconst (v := 1) C dX2_canGive_34 (by decide) ?_
          refine zz_goto (tgt := 39) C dX2_canGive_35 (by decide) ?_
          exact J39 _ (by first | rfl | (simp_all [zz_b, qa_free]; done))

