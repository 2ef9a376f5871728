/-! the twin: an order of its pad -/
theorem tp_o1_w {pd : Nat → Int32} {len : Nat} {q : Nat × Bool} : zz_b (q.2 || !tp_let (tp_cur pd len q.1)) = zz_b (tp_o1 pd len q).2 := by
  unfold tp_o1
  split
  · rename_i h; rw [h]
  · rename_i h; rw [Bool.not_eq_true _ |>.mp h]
theorem tp_o1_p {pd : Nat → Int32} {len : Nat} {q : Nat × Bool} : nI q.1 + zz_b (!(q.2 || !tp_let (tp_cur pd len q.1))) = nI (tp_o1 pd len q).1 := by
  unfold tp_o1
  split
  · rename_i h; rw [h]; exact Int32.add_zero _
  · rename_i h; rw [Bool.not_eq_true _ |>.mp h]; exact nI_1 _
theorem tp_o2_w {pd : Nat → Int32} {len : Nat} {q : Nat × Bool} : (tp_o2 pd len q).2 = (tp_o1 pd len q).2 := by
  unfold tp_o2; split <;> rfl
theorem tp_o2_p {pd : Nat → Int32} {len : Nat} {q : Nat × Bool} : nI (tp_o1 pd len q).1 + zz_b (tp_ob pd len q) = nI (tp_o2 pd len q).1 := by
  unfold tp_o2
  split
  · rename_i h; rw [h]; exact nI_1 _
  · rename_i h; rw [Bool.not_eq_true _ |>.mp h]; exact Int32.add_zero _
set_option maxHeartbeats 1000000 in
theorem ct_X2_readOrder {l : Launch} {D : va_G} {b0 : Nat} {h : zz_H} {x : Nat} {ad : Nat → Nat} {a ah hi : Nat → Int32} {kp : Nat} {sl sv pd : Nat → Int32} {len : Nat} {so to : Nat → Int32} {pos : Nat} {wr : Bool} (hlen : len ≤ 80) (hpos : pos ≤ len) (hX : tw_X D h x ad a ah hi kp sl sv pd len so (nI pos) (zz_b wr) to)  : zz_Ct l D b0 yX2_readOrder cX2_readOrder 5 (none) 4 89 0 0 [.ref x] h (fun v h' => v = none ∧ tw_X D h' x ad a ah hi kp sl sv pd len so (nI (tp_ord pd len to (pos, wr)).2.1) (zz_b (tp_ord pd len to (pos, wr)).2.2) (tp_ord pd len to (pos, wr)).1 ∧ tw_F x ad h h') := by
  refine zz_Ct.of zy_X2_readOrder.1 rfl ?_
  intro p e s m below meth c C
  have hM := hX.M
  obtain ⟨hx, h0, h1a, h2a, h3a, h4a, h5a, h6, h7, hd⟩ := id hX
  have hF : tw_F x ad h h := tw_F.rf
  refine zz_joinI (pcJ := 24) (tp_cur pd len pos) ?_ ?_
  · rintro z24 rfl
    refine zz_istore_n C dX2_readOrder_24 (by decide) ?_
    refine zz_joinI (pcJ := 72) (zz_b (tp_let (tp_cur pd len pos))) ?_ ?_
    · rintro z72 rfl
      refine zz_istore_n C dX2_readOrder_72 (by decide) ?_
      first | refine zz_aload_n C dX2_readOrder_73 rfl ?_ | refine zz_aload_nN C dX2_readOrder_73 rfl ?_
      refine zz_joinI (pcJ := 90) (zz_b (wr || !tp_let (tp_cur pd len pos))) ?_ ?_
      · rintro z90 rfl
        refine zz_put C rfl (by first | assumption | exact zz_us | exact zz_lk1 (by assumption) (by assumption) | exact zz_lk3 (hd _ _ (by decide) (by decide) (by decide)) (by assumption) | exact zz_uf (by assumption) (by assumption) | exact zz_lk3 (zz_xi (by assumption) (by assumption)) (zz_lk1 (by assumption) (by assumption)) | exact zz_lk3 (hd _ _ (by decide) (by decide) (by decide)) (zz_lk3 (hd _ _ (by decide) (by decide) (by decide)) (by assumption)) | (simp only [zz_up]; simp_all; done)) rfl in_X2 tyX2 tyX2_ok nmX2 10 rfl q1240 (fun _ h => h) rfl (tyX2_ok 10 (by decide)) (by first | rfl | exact zz_narZ (by first | exact zz_b01 _ | assumption | decide)) (by first | exact zz_fitZ _ | rfl | exact zz_fit01 (by assumption)) (Nat.le_of_ble_eq_true rfl) dX2_readOrder_90 ?_
        first | refine zz_aload_n C dX2_readOrder_93 rfl ?_ | refine zz_aload_nN C dX2_readOrder_93 rfl ?_
        refine zz_dup C dX2_readOrder_94 rfl ?_
        refine zz_get C rfl (by first | assumption | exact zz_us | exact zz_lk1 (by assumption) (by assumption) | exact zz_lk3 (hd _ _ (by decide) (by decide) (by decide)) (by assumption) | exact zz_uf (by assumption) (by assumption) | exact zz_lk3 (zz_xi (by assumption) (by assumption)) (zz_lk1 (by assumption) (by assumption)) | exact zz_lk3 (hd _ _ (by decide) (by decide) (by decide)) (zz_lk3 (hd _ _ (by decide) (by decide) (by decide)) (by assumption)) | (simp only [zz_up]; simp_all; done)) rfl in_X2 9 rfl q1239 (fun _ h => h) (by first | rfl | assumption) dX2_readOrder_95 ?_
        refine zz_joinI (pcJ := 110) (zz_b (!(wr || !tp_let (tp_cur pd len pos)))) ?_ ?_
        · rintro z110 rfl
          refine zz_iadd C dX2_readOrder_110 ?_
          rw [show nI pos + zz_b (!(wr || !tp_let (tp_cur pd len pos))) = nI (tp_o1 pd len (pos, wr)).1 from tp_o1_p (q := (pos, wr))]
          refine zz_put C rfl (by first | assumption | exact zz_us | exact zz_lk1 (by assumption) (by assumption) | exact zz_lk3 (hd _ _ (by decide) (by decide) (by decide)) (by assumption) | exact zz_uf (by assumption) (by assumption) | exact zz_lk3 (zz_xi (by assumption) (by assumption)) (zz_lk1 (by assumption) (by assumption)) | exact zz_lk3 (hd _ _ (by decide) (by decide) (by decide)) (zz_lk3 (hd _ _ (by decide) (by decide) (by decide)) (by assumption)) | (simp only [zz_up]; simp_all; done)) rfl in_X2 tyX2 tyX2_ok nmX2 9 rfl q1239 (fun _ h => h) rfl (tyX2_ok 9 (by decide)) (by first | rfl | exact zz_narZ (by first | exact zz_b01 _ | assumption | decide)) rfl (Nat.le_of_ble_eq_true rfl) dX2_readOrder_111 ?_
          rw [zz_upup, show zz_b (wr || !tp_let (tp_cur pd len pos)) = zz_b (tp_o1 pd len (pos, wr)).2 from tp_o1_w (q := (pos, wr))]
          refine zz_gen (P := fun h' => tw_X D h' x ad _ _ _ _ _ _ _ _ _ _ _ _ ∧ tw_F x ad h h') ⟨hX.fx kp len (nI (tp_o1 pd len (pos, wr)).1) (zz_b (tp_o1 pd len (pos, wr)).2), hF.tr (tw_F.ux)⟩ (fun hz hP => ?_)
          obtain ⟨hX, hF⟩ := hP
          clear hx h0 h1a h2a h3a h4a h5a h6 h7
          obtain ⟨hx, h0, h1a, h2a, h3a, h4a, h5a, h6, h7, -⟩ := id hX
          first | refine zz_aload_n C dX2_readOrder_114 rfl ?_ | refine zz_aload_nN C dX2_readOrder_114 rfl ?_
          refine zz_get C rfl (by first | assumption | exact zz_us | exact zz_lk1 (by assumption) (by assumption) | exact zz_lk3 (hd _ _ (by decide) (by decide) (by decide)) (by assumption) | exact zz_uf (by assumption) (by assumption) | exact zz_lk3 (zz_xi (by assumption) (by assumption)) (zz_lk1 (by assumption) (by assumption)) | exact zz_lk3 (hd _ _ (by decide) (by decide) (by decide)) (zz_lk3 (hd _ _ (by decide) (by decide) (by decide)) (by assumption)) | (simp only [zz_up]; simp_all; done)) rfl in_X2 11 rfl q1241 (fun _ h => h) (by first | rfl | assumption) dX2_readOrder_115 ?_
          refine zz_iconst (v := nI 0) C dX2_readOrder_118 (by decide) ?_
          refine zz_iload_n C dX2_readOrder_119 rfl ?_
          first | refine zz_iast2 C rfl (by omega) (by omega) dX2_readOrder_120 ?_ | refine zz_iast C (by first | assumption | exact zz_us | exact zz_lk1 (by assumption) (by assumption) | exact zz_lk3 (hd _ _ (by decide) (by decide) (by decide)) (by assumption) | exact zz_uf (by assumption) (by assumption) | exact zz_lk3 (zz_xi (by assumption) (by assumption)) (zz_lk1 (by assumption) (by assumption)) | exact zz_lk3 (hd _ _ (by decide) (by decide) (by decide)) (zz_lk3 (hd _ _ (by decide) (by decide) (by decide)) (by assumption)) | (simp only [zz_up]; simp_all; done)) rfl (by omega) (by omega) dX2_readOrder_120 ?_
          refine zz_gen (P := fun h' => tw_X D h' x ad _ _ _ _ _ _ _ _ _ _ _ _ ∧ tw_F x ad h h') ⟨hX.u7 _, hF.tr (tw_F.up 7 (by decide))⟩ (fun hz hP => ?_)
          obtain ⟨hX, hF⟩ := hP
          clear hx h0 h1a h2a h3a h4a h5a h6 h7
          obtain ⟨hx, h0, h1a, h2a, h3a, h4a, h5a, h6, h7, -⟩ := id hX
          refine zz_joinI (pcJ := 143) (zz_b (tp_ob pd len (pos, wr))) ?_ ?_
          · rintro z143 rfl
            refine zz_istore_n C dX2_readOrder_143 (by decide) ?_
            first | refine zz_aload_n C dX2_readOrder_144 rfl ?_ | refine zz_aload_nN C dX2_readOrder_144 rfl ?_
            refine zz_dup C dX2_readOrder_145 rfl ?_
            refine zz_get C rfl (by first | assumption | exact zz_us | exact zz_lk1 (by assumption) (by assumption) | exact zz_lk3 (hd _ _ (by decide) (by decide) (by decide)) (by assumption) | exact zz_uf (by assumption) (by assumption) | exact zz_lk3 (zz_xi (by assumption) (by assumption)) (zz_lk1 (by assumption) (by assumption)) | exact zz_lk3 (hd _ _ (by decide) (by decide) (by decide)) (zz_lk3 (hd _ _ (by decide) (by decide) (by decide)) (by assumption)) | (simp only [zz_up]; simp_all; done)) rfl in_X2 9 rfl q1239 (fun _ h => h) (by first | rfl | assumption) dX2_readOrder_146 ?_
            refine zz_joinI (pcJ := 158) (zz_b (tp_ob pd len (pos, wr))) ?_ ?_
            · rintro z158 rfl
              refine zz_iadd C dX2_readOrder_158 ?_
              rw [show nI (tp_o1 pd len (pos, wr)).1 + zz_b (tp_ob pd len (pos, wr)) = nI (tp_o2 pd len (pos, wr)).1 from tp_o2_p]
              refine zz_put C rfl (by first | assumption | exact zz_us | exact zz_lk1 (by assumption) (by assumption) | exact zz_lk3 (hd _ _ (by decide) (by decide) (by decide)) (by assumption) | exact zz_uf (by assumption) (by assumption) | exact zz_lk3 (zz_xi (by assumption) (by assumption)) (zz_lk1 (by assumption) (by assumption)) | exact zz_lk3 (hd _ _ (by decide) (by decide) (by decide)) (zz_lk3 (hd _ _ (by decide) (by decide) (by decide)) (by assumption)) | (simp only [zz_up]; simp_all; done)) rfl in_X2 tyX2 tyX2_ok nmX2 9 rfl q1239 (fun _ h => h) rfl (tyX2_ok 9 (by decide)) (by first | rfl | exact zz_narZ (by first | exact zz_b01 _ | assumption | decide)) rfl (Nat.le_of_ble_eq_true rfl) dX2_readOrder_159 ?_
              rw [show (tp_o1 pd len (pos, wr)).2 = (tp_o2 pd len (pos, wr)).2 from tp_o2_w.symm]
              refine zz_gen (P := fun h' => tw_X D h' x ad _ _ _ _ _ _ _ _ _ _ _ _ ∧ tw_F x ad h h') ⟨hX.fx kp len (nI (tp_o2 pd len (pos, wr)).1) (zz_b (tp_o2 pd len (pos, wr)).2), hF.tr (tw_F.ux)⟩ (fun hz hP => ?_)
              obtain ⟨hX, hF⟩ := hP
              clear hx h0 h1a h2a h3a h4a h5a h6 h7
              obtain ⟨hx, h0, h1a, h2a, h3a, h4a, h5a, h6, h7, -⟩ := id hX
              first | refine zz_aload_n C dX2_readOrder_162 rfl ?_ | refine zz_aload_nN C dX2_readOrder_162 rfl ?_
              refine zz_get C rfl (by first | assumption | exact zz_us | exact zz_lk1 (by assumption) (by assumption) | exact zz_lk3 (hd _ _ (by decide) (by decide) (by decide)) (by assumption) | exact zz_uf (by assumption) (by assumption) | exact zz_lk3 (zz_xi (by assumption) (by assumption)) (zz_lk1 (by assumption) (by assumption)) | exact zz_lk3 (hd _ _ (by decide) (by decide) (by decide)) (zz_lk3 (hd _ _ (by decide) (by decide) (by decide)) (by assumption)) | (simp only [zz_up]; simp_all; done)) rfl in_X2 11 rfl q1241 (fun _ h => h) (by first | rfl | assumption) dX2_readOrder_163 ?_
              refine zz_iconst (v := nI 1) C dX2_readOrder_166 (by decide) ?_
              refine zz_iload_n C dX2_readOrder_167 rfl ?_
              refine zz_bipush (v := 100) C dX2_readOrder_168 (by decide) ?_
              refine zz_icmp_ne (tgt := 184) C dX2_readOrder_170 (by decide) (fun c170 => ?_) (fun c170 => ?_)
              · first | refine zz_aload_n C dX2_readOrder_184 rfl ?_ | refine zz_aload_nN C dX2_readOrder_184 rfl ?_
                refine zz_callV C zy_X2_takesNumber (ct_X2_takesNumber hlen (tp_o2_le hpos) hX) rfl q1571 (by first | assumption | exact zz_us | exact zz_lk1 (by assumption) (by assumption) | exact zz_lk3 (hd _ _ (by decide) (by decide) (by decide)) (by assumption) | exact zz_uf (by assumption) (by assumption) | exact zz_lk3 (zz_xi (by assumption) (by assumption)) (zz_lk1 (by assumption) (by assumption)) | exact zz_lk3 (hd _ _ (by decide) (by decide) (by decide)) (zz_lk3 (hd _ _ (by decide) (by decide) (by decide)) (by assumption)) | (simp only [zz_up]; simp_all; done)) rfl rfl rfl rfl rfl rfl dX2_readOrder_185 ⟨Nat.le_of_ble_eq_true rfl, Nat.le_of_ble_eq_true rfl⟩ (fun v hz hp => ?_)
                obtain ⟨rfl, hX2, hF2⟩ := hp
                have e3 : tp_o3 pd len (pos, wr) = tp_num pd len (tp_o2 pd len (pos, wr)) := if_neg c170
                rw [show tp_num pd len (tp_o2 pd len (pos, wr)) = tp_o3 pd len (pos, wr) from e3.symm] at hX2
                rw [show tp_num pd len ((tp_o2 pd len (pos, wr)).1, (tp_o2 pd len (pos, wr)).2) = tp_o3 pd len (pos, wr) from e3.symm]
                have hF := hF.tr hF2
                have hX := hX2
                clear hx h0 h1a h2a h3a h4a h5a h6 h7
                obtain ⟨hx, h0, h1a, h2a, h3a, h4a, h5a, h6, h7, -⟩ := id hX
                first | refine zz_iast2 C rfl (by omega) (by omega) dX2_readOrder_188 ?_ | refine zz_iast C (by first | assumption | exact zz_us | exact zz_lk1 (by assumption) (by assumption) | exact zz_lk3 (hd _ _ (by decide) (by decide) (by decide)) (by assumption) | exact zz_uf (by assumption) (by assumption) | exact zz_lk3 (zz_xi (by assumption) (by assumption)) (zz_lk1 (by assumption) (by assumption)) | exact zz_lk3 (hd _ _ (by decide) (by decide) (by decide)) (zz_lk3 (hd _ _ (by decide) (by decide) (by decide)) (by assumption)) | (simp only [zz_up]; simp_all; done)) rfl (by omega) (by omega) dX2_readOrder_188 ?_
                refine zz_gen (P := fun h' => tw_X D h' x ad _ _ _ _ _ _ _ _ _ _ _ _ ∧ tw_F x ad h h') ⟨hX.u7 _, hF.tr (tw_F.up 7 (by decide))⟩ (fun hz hP => ?_)
                obtain ⟨hX, hF⟩ := hP
                clear hx h0 h1a h2a h3a h4a h5a h6 h7
                obtain ⟨hx, h0, h1a, h2a, h3a, h4a, h5a, h6, h7, -⟩ := id hX
                first | refine zz_aload_n C dX2_readOrder_189 rfl ?_ | refine zz_aload_nN C dX2_readOrder_189 rfl ?_
                refine zz_get C rfl (by first | assumption | exact zz_us | exact zz_lk1 (by assumption) (by assumption) | exact zz_lk3 (hd _ _ (by decide) (by decide) (by decide)) (by assumption) | exact zz_uf (by assumption) (by assumption) | exact zz_lk3 (zz_xi (by assumption) (by assumption)) (zz_lk1 (by assumption) (by assumption)) | exact zz_lk3 (hd _ _ (by decide) (by decide) (by decide)) (zz_lk3 (hd _ _ (by decide) (by decide) (by decide)) (by assumption)) | (simp only [zz_up]; simp_all; done)) rfl in_X2 11 rfl q1241 (fun _ h => h) (by first | rfl | assumption) dX2_readOrder_190 ?_
                refine zz_iconst (v := nI 1) C dX2_readOrder_193 (by decide) ?_
                refine zz_joinI (pcJ := 214) (tp_oa pd len (pos, wr)) ?_ ?_
                · rintro z214 rfl
                  first | refine zz_iast2 C rfl (by omega) (by omega) dX2_readOrder_214 ?_ | refine zz_iast C (by first | assumption | exact zz_us | exact zz_lk1 (by assumption) (by assumption) | exact zz_lk3 (hd _ _ (by decide) (by decide) (by decide)) (by assumption) | exact zz_uf (by assumption) (by assumption) | exact zz_lk3 (zz_xi (by assumption) (by assumption)) (zz_lk1 (by assumption) (by assumption)) | exact zz_lk3 (hd _ _ (by decide) (by decide) (by decide)) (zz_lk3 (hd _ _ (by decide) (by decide) (by decide)) (by assumption)) | (simp only [zz_up]; simp_all; done)) rfl (by omega) (by omega) dX2_readOrder_214 ?_
                  refine zz_gen (P := fun h' => tw_X D h' x ad _ _ _ _ _ _ _ _ _ _ _ _ ∧ tw_F x ad h h') ⟨hX.u7 _, hF.tr (tw_F.up 7 (by decide))⟩ (fun hz hP => ?_)
                  obtain ⟨hX, hF⟩ := hP
                  clear hx h0 h1a h2a h3a h4a h5a h6 h7
                  obtain ⟨hx, h0, h1a, h2a, h3a, h4a, h5a, h6, h7, -⟩ := id hX
                  refine zz_iload_n C dX2_readOrder_215 rfl ?_
                  refine zz_bipush (v := 113) C dX2_readOrder_216 (by decide) ?_
                  refine zz_icmp_eq (tgt := 227) C dX2_readOrder_218 (by decide) (fun c218 => ?_) (fun c218 => ?_)
                  · first | refine zz_aload_n C dX2_readOrder_227 rfl ?_ | refine zz_aload_nN C dX2_readOrder_227 rfl ?_
                    refine zz_get C rfl (by first | assumption | exact zz_us | exact zz_lk1 (by assumption) (by assumption) | exact zz_lk3 (hd _ _ (by decide) (by decide) (by decide)) (by assumption) | exact zz_uf (by assumption) (by assumption) | exact zz_lk3 (zz_xi (by assumption) (by assumption)) (zz_lk1 (by assumption) (by assumption)) | exact zz_lk3 (hd _ _ (by decide) (by decide) (by decide)) (zz_lk3 (hd _ _ (by decide) (by decide) (by decide)) (by assumption)) | (simp only [zz_up]; simp_all; done)) rfl in_X2 11 rfl q1241 (fun _ h => h) (by first | rfl | assumption) dX2_readOrder_228 ?_
                    refine zz_iconst (v := nI 2) C dX2_readOrder_231 (by decide) ?_
                    first | refine zz_aload_n C dX2_readOrder_232 rfl ?_ | refine zz_aload_nN C dX2_readOrder_232 rfl ?_
                    refine zz_bipush (v := 120) C dX2_readOrder_233 (by decide) ?_
                    refine zz_callV C zy_X2_takesBehind (ct_X2_takesBehind hlen (by first | exact tp_o2_le hpos | exact tp_o3_le hpos | exact tp_beh_le (tp_o3_le hpos) (by decide) | exact tp_beh_le (tp_beh_le (tp_o3_le hpos) (by decide)) (by decide) | exact tp_take_le (tp_o3_le hpos) (by decide) | exact tp_take_le (tp_take_le (tp_o3_le hpos) (by decide)) (by decide)) (by decide) hX) rfl q1575 (by first | assumption | exact zz_us | exact zz_lk1 (by assumption) (by assumption) | exact zz_lk3 (hd _ _ (by decide) (by decide) (by decide)) (by assumption) | exact zz_uf (by assumption) (by assumption) | exact zz_lk3 (zz_xi (by assumption) (by assumption)) (zz_lk1 (by assumption) (by assumption)) | exact zz_lk3 (hd _ _ (by decide) (by decide) (by decide)) (zz_lk3 (hd _ _ (by decide) (by decide) (by decide)) (by assumption)) | (simp only [zz_up]; simp_all; done)) rfl rfl rfl rfl rfl rfl dX2_readOrder_235 ⟨Nat.le_of_ble_eq_true rfl, Nat.le_of_ble_eq_true rfl⟩ (fun v hz hp => ?_)
                    obtain ⟨rfl, hX2, hF2⟩ := hp
                    have hF := hF.tr hF2
                    have hX := hX2
                    clear hx h0 h1a h2a h3a h4a h5a h6 h7
                    obtain ⟨hx, h0, h1a, h2a, h3a, h4a, h5a, h6, h7, -⟩ := id hX
                    first | refine zz_iast2 C rfl (by omega) (by omega) dX2_readOrder_238 ?_ | refine zz_iast C (by first | assumption | exact zz_us | exact zz_lk1 (by assumption) (by assumption) | exact zz_lk3 (hd _ _ (by decide) (by decide) (by decide)) (by assumption) | exact zz_uf (by assumption) (by assumption) | exact zz_lk3 (zz_xi (by assumption) (by assumption)) (zz_lk1 (by assumption) (by assumption)) | exact zz_lk3 (hd _ _ (by decide) (by decide) (by decide)) (zz_lk3 (hd _ _ (by decide) (by decide) (by decide)) (by assumption)) | (simp only [zz_up]; simp_all; done)) rfl (by omega) (by omega) dX2_readOrder_238 ?_
                    refine zz_gen (P := fun h' => tw_X D h' x ad _ _ _ _ _ _ _ _ _ _ _ _ ∧ tw_F x ad h h') ⟨hX.u7 _, hF.tr (tw_F.up 7 (by decide))⟩ (fun hz hP => ?_)
                    obtain ⟨hX, hF⟩ := hP
                    clear hx h0 h1a h2a h3a h4a h5a h6 h7
                    obtain ⟨hx, h0, h1a, h2a, h3a, h4a, h5a, h6, h7, -⟩ := id hX
                    first | refine zz_aload_n C dX2_readOrder_239 rfl ?_ | refine zz_aload_nN C dX2_readOrder_239 rfl ?_
                    refine zz_get C rfl (by first | assumption | exact zz_us | exact zz_lk1 (by assumption) (by assumption) | exact zz_lk3 (hd _ _ (by decide) (by decide) (by decide)) (by assumption) | exact zz_uf (by assumption) (by assumption) | exact zz_lk3 (zz_xi (by assumption) (by assumption)) (zz_lk1 (by assumption) (by assumption)) | exact zz_lk3 (hd _ _ (by decide) (by decide) (by decide)) (zz_lk3 (hd _ _ (by decide) (by decide) (by decide)) (by assumption)) | (simp only [zz_up]; simp_all; done)) rfl in_X2 11 rfl q1241 (fun _ h => h) (by first | rfl | assumption) dX2_readOrder_240 ?_
                    refine zz_iconst (v := nI 3) C dX2_readOrder_243 (by decide) ?_
                    first | refine zz_aload_n C dX2_readOrder_244 rfl ?_ | refine zz_aload_nN C dX2_readOrder_244 rfl ?_
                    refine zz_bipush (v := 120) C dX2_readOrder_245 (by decide) ?_
                    refine zz_callV C zy_X2_takesBehind (ct_X2_takesBehind hlen (by first | exact tp_o2_le hpos | exact tp_o3_le hpos | exact tp_beh_le (tp_o3_le hpos) (by decide) | exact tp_beh_le (tp_beh_le (tp_o3_le hpos) (by decide)) (by decide) | exact tp_take_le (tp_o3_le hpos) (by decide) | exact tp_take_le (tp_take_le (tp_o3_le hpos) (by decide)) (by decide)) (by decide) hX) rfl q1575 (by first | assumption | exact zz_us | exact zz_lk1 (by assumption) (by assumption) | exact zz_lk3 (hd _ _ (by decide) (by decide) (by decide)) (by assumption) | exact zz_uf (by assumption) (by assumption) | exact zz_lk3 (zz_xi (by assumption) (by assumption)) (zz_lk1 (by assumption) (by assumption)) | exact zz_lk3 (hd _ _ (by decide) (by decide) (by decide)) (zz_lk3 (hd _ _ (by decide) (by decide) (by decide)) (by assumption)) | (simp only [zz_up]; simp_all; done)) rfl rfl rfl rfl rfl rfl dX2_readOrder_247 ⟨Nat.le_of_ble_eq_true rfl, Nat.le_of_ble_eq_true rfl⟩ (fun v hz hp => ?_)
                    obtain ⟨rfl, hX2, hF2⟩ := hp
                    have hF := hF.tr hF2
                    have hX := hX2
                    clear hx h0 h1a h2a h3a h4a h5a h6 h7
                    obtain ⟨hx, h0, h1a, h2a, h3a, h4a, h5a, h6, h7, -⟩ := id hX
                    first | refine zz_iast2 C rfl (by omega) (by omega) dX2_readOrder_250 ?_ | refine zz_iast C (by first | assumption | exact zz_us | exact zz_lk1 (by assumption) (by assumption) | exact zz_lk3 (hd _ _ (by decide) (by decide) (by decide)) (by assumption) | exact zz_uf (by assumption) (by assumption) | exact zz_lk3 (zz_xi (by assumption) (by assumption)) (zz_lk1 (by assumption) (by assumption)) | exact zz_lk3 (hd _ _ (by decide) (by decide) (by decide)) (zz_lk3 (hd _ _ (by decide) (by decide) (by decide)) (by assumption)) | (simp only [zz_up]; simp_all; done)) rfl (by omega) (by omega) dX2_readOrder_250 ?_
                    refine zz_gen (P := fun h' => tw_X D h' x ad _ _ _ _ _ _ _ _ _ _ _ _ ∧ tw_F x ad h h') ⟨hX.u7 _, hF.tr (tw_F.up 7 (by decide))⟩ (fun hz hP => ?_)
                    obtain ⟨hX, hF⟩ := hP
                    clear hx h0 h1a h2a h3a h4a h5a h6 h7
                    obtain ⟨hx, h0, h1a, h2a, h3a, h4a, h5a, h6, h7, -⟩ := id hX
                    first | refine zz_aload_n C dX2_readOrder_251 rfl ?_ | refine zz_aload_nN C dX2_readOrder_251 rfl ?_
                    refine zz_get C rfl (by first | assumption | exact zz_us | exact zz_lk1 (by assumption) (by assumption) | exact zz_lk3 (hd _ _ (by decide) (by decide) (by decide)) (by assumption) | exact zz_uf (by assumption) (by assumption) | exact zz_lk3 (zz_xi (by assumption) (by assumption)) (zz_lk1 (by assumption) (by assumption)) | exact zz_lk3 (hd _ _ (by decide) (by decide) (by decide)) (zz_lk3 (hd _ _ (by decide) (by decide) (by decide)) (by assumption)) | (simp only [zz_up]; simp_all; done)) rfl in_X2 11 rfl q1241 (fun _ h => h) (by first | rfl | assumption) dX2_readOrder_252 ?_
                    refine zz_iconst (v := nI 4) C dX2_readOrder_255 (by decide) ?_
                    refine zz_iload_n C dX2_readOrder_256 rfl ?_
                    refine zz_bipush (v := 113) C dX2_readOrder_257 (by decide) ?_
                    refine zz_icmp_ne (tgt := 271) C dX2_readOrder_259 (by decide) (fun c259 => ?_) (fun c259 => ?_)
                    · refine zz_iconst (v := 0) C dX2_readOrder_271 (by decide) ?_
                      first | refine zz_iast2 C rfl (by omega) (by omega) dX2_readOrder_272 ?_ | refine zz_iast C (by first | assumption | exact zz_us | exact zz_lk1 (by assumption) (by assumption) | exact zz_lk3 (hd _ _ (by decide) (by decide) (by decide)) (by assumption) | exact zz_uf (by assumption) (by assumption) | exact zz_lk3 (zz_xi (by assumption) (by assumption)) (zz_lk1 (by assumption) (by assumption)) | exact zz_lk3 (hd _ _ (by decide) (by decide) (by decide)) (zz_lk3 (hd _ _ (by decide) (by decide) (by decide)) (by assumption)) | (simp only [zz_up]; simp_all; done)) rfl (by omega) (by omega) dX2_readOrder_272 ?_
                      refine zz_gen (P := fun h' => tw_X D h' x ad _ _ _ _ _ _ _ _ _ _ _ _ ∧ tw_F x ad h h') ⟨hX.u7 _, hF.tr (tw_F.up 7 (by decide))⟩ (fun hz hP => ?_)
                      obtain ⟨hX, hF⟩ := hP
                      clear hx h0 h1a h2a h3a h4a h5a h6 h7
                      obtain ⟨hx, h0, h1a, h2a, h3a, h4a, h5a, h6, h7, -⟩ := id hX
                      refine zz_goto (tgt := 362) C dX2_readOrder_273 (by decide) ?_
                      refine zz_vret C dX2_readOrder_362 rfl rfl ?_
                      first
                      | exact absurd c259 (by rw [c224]; decide)
                      | exact absurd c218 c259
                      | exact absurd c300 c341
                      | exact absurd c341 (by rw [c306]; decide)
                      | (refine ⟨rfl, ?_, hF⟩
                         first
                         | (rw [show tp_ord pd len to (pos, wr) = _ from if_pos c218]; exact hX)
                         | (rw [show tp_ord pd len to (pos, wr) = _ from (if_neg c218).trans (if_pos c224)]; exact hX)
                         | (rw [show tp_ord pd len to (pos, wr) = _ from (if_neg c218).trans ((if_neg c224).trans (if_pos c279))]; exact hX)
                         | (rw [show tp_ord pd len to (pos, wr) = _ from (if_neg c218).trans ((if_neg c224).trans ((if_neg c279).trans (if_pos c300)))]; exact hX)
                         | (rw [show tp_ord pd len to (pos, wr) = _ from (if_neg c218).trans ((if_neg c224).trans ((if_neg c279).trans ((if_neg c300).trans (if_pos c306))))]; exact hX)
                         | (rw [show tp_ord pd len to (pos, wr) = _ from (if_neg c218).trans ((if_neg c224).trans ((if_neg c279).trans ((if_neg c300).trans (if_neg c306))))]; exact hX))
                    · first | refine zz_aload_n C dX2_readOrder_262 rfl ?_ | refine zz_aload_nN C dX2_readOrder_262 rfl ?_
                      refine zz_bipush (v := 42) C dX2_readOrder_263 (by decide) ?_
                      refine zz_callV C zy_X2_takesBehind (ct_X2_takesBehind hlen (by first | exact tp_o2_le hpos | exact tp_o3_le hpos | exact tp_beh_le (tp_o3_le hpos) (by decide) | exact tp_beh_le (tp_beh_le (tp_o3_le hpos) (by decide)) (by decide) | exact tp_take_le (tp_o3_le hpos) (by decide) | exact tp_take_le (tp_take_le (tp_o3_le hpos) (by decide)) (by decide)) (by decide) hX) rfl q1575 (by first | assumption | exact zz_us | exact zz_lk1 (by assumption) (by assumption) | exact zz_lk3 (hd _ _ (by decide) (by decide) (by decide)) (by assumption) | exact zz_uf (by assumption) (by assumption) | exact zz_lk3 (zz_xi (by assumption) (by assumption)) (zz_lk1 (by assumption) (by assumption)) | exact zz_lk3 (hd _ _ (by decide) (by decide) (by decide)) (zz_lk3 (hd _ _ (by decide) (by decide) (by decide)) (by assumption)) | (simp only [zz_up]; simp_all; done)) rfl rfl rfl rfl rfl rfl dX2_readOrder_265 ⟨Nat.le_of_ble_eq_true rfl, Nat.le_of_ble_eq_true rfl⟩ (fun v hz hp => ?_)
                      obtain ⟨rfl, hX2, hF2⟩ := hp
                      have hF := hF.tr hF2
                      have hX := hX2
                      clear hx h0 h1a h2a h3a h4a h5a h6 h7
                      obtain ⟨hx, h0, h1a, h2a, h3a, h4a, h5a, h6, h7, -⟩ := id hX
                      refine zz_goto (tgt := 272) C dX2_readOrder_268 (by decide) ?_
                      first | refine zz_iast2 C rfl (by omega) (by omega) dX2_readOrder_272 ?_ | refine zz_iast C (by first | assumption | exact zz_us | exact zz_lk1 (by assumption) (by assumption) | exact zz_lk3 (hd _ _ (by decide) (by decide) (by decide)) (by assumption) | exact zz_uf (by assumption) (by assumption) | exact zz_lk3 (zz_xi (by assumption) (by assumption)) (zz_lk1 (by assumption) (by assumption)) | exact zz_lk3 (hd _ _ (by decide) (by decide) (by decide)) (zz_lk3 (hd _ _ (by decide) (by decide) (by decide)) (by assumption)) | (simp only [zz_up]; simp_all; done)) rfl (by omega) (by omega) dX2_readOrder_272 ?_
                      refine zz_gen (P := fun h' => tw_X D h' x ad _ _ _ _ _ _ _ _ _ _ _ _ ∧ tw_F x ad h h') ⟨hX.u7 _, hF.tr (tw_F.up 7 (by decide))⟩ (fun hz hP => ?_)
                      obtain ⟨hX, hF⟩ := hP
                      clear hx h0 h1a h2a h3a h4a h5a h6 h7
                      obtain ⟨hx, h0, h1a, h2a, h3a, h4a, h5a, h6, h7, -⟩ := id hX
                      refine zz_goto (tgt := 362) C dX2_readOrder_273 (by decide) ?_
                      refine zz_vret C dX2_readOrder_362 rfl rfl ?_
                      first
                      | exact absurd c259 (by rw [c224]; decide)
                      | exact absurd c218 c259
                      | exact absurd c300 c341
                      | exact absurd c341 (by rw [c306]; decide)
                      | (refine ⟨rfl, ?_, hF⟩
                         first
                         | (rw [show tp_ord pd len to (pos, wr) = _ from if_pos c218]; exact hX)
                         | (rw [show tp_ord pd len to (pos, wr) = _ from (if_neg c218).trans (if_pos c224)]; exact hX)
                         | (rw [show tp_ord pd len to (pos, wr) = _ from (if_neg c218).trans ((if_neg c224).trans (if_pos c279))]; exact hX)
                         | (rw [show tp_ord pd len to (pos, wr) = _ from (if_neg c218).trans ((if_neg c224).trans ((if_neg c279).trans (if_pos c300)))]; exact hX)
                         | (rw [show tp_ord pd len to (pos, wr) = _ from (if_neg c218).trans ((if_neg c224).trans ((if_neg c279).trans ((if_neg c300).trans (if_pos c306))))]; exact hX)
                         | (rw [show tp_ord pd len to (pos, wr) = _ from (if_neg c218).trans ((if_neg c224).trans ((if_neg c279).trans ((if_neg c300).trans (if_neg c306))))]; exact hX))
                  · refine zz_iload_n C dX2_readOrder_221 rfl ?_
                    refine zz_bipush (v := 111) C dX2_readOrder_222 (by decide) ?_
                    refine zz_icmp_ne (tgt := 276) C dX2_readOrder_224 (by decide) (fun c224 => ?_) (fun c224 => ?_)
                    · refine zz_iload_n C dX2_readOrder_276 rfl ?_
                      refine zz_bipush (v := 103) C dX2_readOrder_277 (by decide) ?_
                      refine zz_icmp_ne (tgt := 297) C dX2_readOrder_279 (by decide) (fun c279 => ?_) (fun c279 => ?_)
                      · refine zz_iload_n C dX2_readOrder_297 rfl ?_
                        refine zz_bipush (v := 99) C dX2_readOrder_298 (by decide) ?_
                        refine zz_icmp_eq (tgt := 309) C dX2_readOrder_300 (by decide) (fun c300 => ?_) (fun c300 => ?_)
                        · first | refine zz_aload_n C dX2_readOrder_309 rfl ?_ | refine zz_aload_nN C dX2_readOrder_309 rfl ?_
                          refine zz_bipush (v := 46) C dX2_readOrder_310 (by decide) ?_
                          refine zz_bipush (v := 46) C dX2_readOrder_312 (by decide) ?_
                          refine zz_callV C zy_X2_takes (ct_X2_takes hlen (by first | exact tp_o2_le hpos | exact tp_o3_le hpos | exact tp_beh_le (tp_o3_le hpos) (by decide) | exact tp_beh_le (tp_beh_le (tp_o3_le hpos) (by decide)) (by decide) | exact tp_take_le (tp_o3_le hpos) (by decide) | exact tp_take_le (tp_take_le (tp_o3_le hpos) (by decide)) (by decide)) hX) rfl q1567 (by first | assumption | exact zz_us | exact zz_lk1 (by assumption) (by assumption) | exact zz_lk3 (hd _ _ (by decide) (by decide) (by decide)) (by assumption) | exact zz_uf (by assumption) (by assumption) | exact zz_lk3 (zz_xi (by assumption) (by assumption)) (zz_lk1 (by assumption) (by assumption)) | exact zz_lk3 (hd _ _ (by decide) (by decide) (by decide)) (zz_lk3 (hd _ _ (by decide) (by decide) (by decide)) (by assumption)) | (simp only [zz_up]; simp_all; done)) rfl rfl rfl rfl rfl rfl dX2_readOrder_314 ⟨Nat.le_of_ble_eq_true rfl, Nat.le_of_ble_eq_true rfl⟩ (fun v hz hp => ?_)
                          obtain ⟨rfl, hX2, hF2⟩ := hp
                          have hF := hF.tr hF2
                          have hX := hX2
                          clear hx h0 h1a h2a h3a h4a h5a h6 h7
                          obtain ⟨hx, h0, h1a, h2a, h3a, h4a, h5a, h6, h7, -⟩ := id hX
                          refine zz_istore C dX2_readOrder_317 (by decide) ?_
                          first | refine zz_aload_n C dX2_readOrder_319 rfl ?_ | refine zz_aload_nN C dX2_readOrder_319 rfl ?_
                          refine zz_get C rfl (by first | assumption | exact zz_us | exact zz_lk1 (by assumption) (by assumption) | exact zz_lk3 (hd _ _ (by decide) (by decide) (by decide)) (by assumption) | exact zz_uf (by assumption) (by assumption) | exact zz_lk3 (zz_xi (by assumption) (by assumption)) (zz_lk1 (by assumption) (by assumption)) | exact zz_lk3 (hd _ _ (by decide) (by decide) (by decide)) (zz_lk3 (hd _ _ (by decide) (by decide) (by decide)) (by assumption)) | (simp only [zz_up]; simp_all; done)) rfl in_X2 11 rfl q1241 (fun _ h => h) (by first | rfl | assumption) dX2_readOrder_320 ?_
                          refine zz_iconst (v := nI 2) C dX2_readOrder_323 (by decide) ?_
                          first | refine zz_aload_n C dX2_readOrder_324 rfl ?_ | refine zz_aload_nN C dX2_readOrder_324 rfl ?_
                          refine zz_bipush (v := 48) C dX2_readOrder_325 (by decide) ?_
                          refine zz_bipush (v := 57) C dX2_readOrder_327 (by decide) ?_
                          refine zz_callV C zy_X2_takes (ct_X2_takes hlen (by first | exact tp_o2_le hpos | exact tp_o3_le hpos | exact tp_beh_le (tp_o3_le hpos) (by decide) | exact tp_beh_le (tp_beh_le (tp_o3_le hpos) (by decide)) (by decide) | exact tp_take_le (tp_o3_le hpos) (by decide) | exact tp_take_le (tp_take_le (tp_o3_le hpos) (by decide)) (by decide)) hX) rfl q1567 (by first | assumption | exact zz_us | exact zz_lk1 (by assumption) (by assumption) | exact zz_lk3 (hd _ _ (by decide) (by decide) (by decide)) (by assumption) | exact zz_uf (by assumption) (by assumption) | exact zz_lk3 (zz_xi (by assumption) (by assumption)) (zz_lk1 (by assumption) (by assumption)) | exact zz_lk3 (hd _ _ (by decide) (by decide) (by decide)) (zz_lk3 (hd _ _ (by decide) (by decide) (by decide)) (by assumption)) | (simp only [zz_up]; simp_all; done)) rfl rfl rfl rfl rfl rfl dX2_readOrder_329 ⟨Nat.le_of_ble_eq_true rfl, Nat.le_of_ble_eq_true rfl⟩ (fun v hz hp => ?_)
                          obtain ⟨rfl, hX2, hF2⟩ := hp
                          have hF := hF.tr hF2
                          have hX := hX2
                          clear hx h0 h1a h2a h3a h4a h5a h6 h7
                          obtain ⟨hx, h0, h1a, h2a, h3a, h4a, h5a, h6, h7, -⟩ := id hX
                          first | refine zz_iast2 C rfl (by omega) (by omega) dX2_readOrder_332 ?_ | refine zz_iast C (by first | assumption | exact zz_us | exact zz_lk1 (by assumption) (by assumption) | exact zz_lk3 (hd _ _ (by decide) (by decide) (by decide)) (by assumption) | exact zz_uf (by assumption) (by assumption) | exact zz_lk3 (zz_xi (by assumption) (by assumption)) (zz_lk1 (by assumption) (by assumption)) | exact zz_lk3 (hd _ _ (by decide) (by decide) (by decide)) (zz_lk3 (hd _ _ (by decide) (by decide) (by decide)) (by assumption)) | (simp only [zz_up]; simp_all; done)) rfl (by omega) (by omega) dX2_readOrder_332 ?_
                          refine zz_gen (P := fun h' => tw_X D h' x ad _ _ _ _ _ _ _ _ _ _ _ _ ∧ tw_F x ad h h') ⟨hX.u7 _, hF.tr (tw_F.up 7 (by decide))⟩ (fun hz hP => ?_)
                          obtain ⟨hX, hF⟩ := hP
                          clear hx h0 h1a h2a h3a h4a h5a h6 h7
                          obtain ⟨hx, h0, h1a, h2a, h3a, h4a, h5a, h6, h7, -⟩ := id hX
                          first | refine zz_aload_n C dX2_readOrder_333 rfl ?_ | refine zz_aload_nN C dX2_readOrder_333 rfl ?_
                          refine zz_get C rfl (by first | assumption | exact zz_us | exact zz_lk1 (by assumption) (by assumption) | exact zz_lk3 (hd _ _ (by decide) (by decide) (by decide)) (by assumption) | exact zz_uf (by assumption) (by assumption) | exact zz_lk3 (zz_xi (by assumption) (by assumption)) (zz_lk1 (by assumption) (by assumption)) | exact zz_lk3 (hd _ _ (by decide) (by decide) (by decide)) (zz_lk3 (hd _ _ (by decide) (by decide) (by decide)) (by assumption)) | (simp only [zz_up]; simp_all; done)) rfl in_X2 11 rfl q1241 (fun _ h => h) (by first | rfl | assumption) dX2_readOrder_334 ?_
                          refine zz_iconst (v := nI 3) C dX2_readOrder_337 (by decide) ?_
                          refine zz_iload_n C dX2_readOrder_338 rfl ?_
                          refine zz_bipush (v := 99) C dX2_readOrder_339 (by decide) ?_
                          refine zz_icmp_ne (tgt := 353) C dX2_readOrder_341 (by decide) (fun c341 => ?_) (fun c341 => ?_)
                          · first | refine zz_aload_n C dX2_readOrder_353 rfl ?_ | refine zz_aload_nN C dX2_readOrder_353 rfl ?_
                            refine zz_bipush (v := 48) C dX2_readOrder_354 (by decide) ?_
                            refine zz_bipush (v := 57) C dX2_readOrder_356 (by decide) ?_
                            refine zz_callV C zy_X2_takes (ct_X2_takes hlen (by first | exact tp_o2_le hpos | exact tp_o3_le hpos | exact tp_beh_le (tp_o3_le hpos) (by decide) | exact tp_beh_le (tp_beh_le (tp_o3_le hpos) (by decide)) (by decide) | exact tp_take_le (tp_o3_le hpos) (by decide) | exact tp_take_le (tp_take_le (tp_o3_le hpos) (by decide)) (by decide)) hX) rfl q1567 (by first | assumption | exact zz_us | exact zz_lk1 (by assumption) (by assumption) | exact zz_lk3 (hd _ _ (by decide) (by decide) (by decide)) (by assumption) | exact zz_uf (by assumption) (by assumption) | exact zz_lk3 (zz_xi (by assumption) (by assumption)) (zz_lk1 (by assumption) (by assumption)) | exact zz_lk3 (hd _ _ (by decide) (by decide) (by decide)) (zz_lk3 (hd _ _ (by decide) (by decide) (by decide)) (by assumption)) | (simp only [zz_up]; simp_all; done)) rfl rfl rfl rfl rfl rfl dX2_readOrder_358 ⟨Nat.le_of_ble_eq_true rfl, Nat.le_of_ble_eq_true rfl⟩ (fun v hz hp => ?_)
                            obtain ⟨rfl, hX2, hF2⟩ := hp
                            have hF := hF.tr hF2
                            have hX := hX2
                            clear hx h0 h1a h2a h3a h4a h5a h6 h7
                            obtain ⟨hx, h0, h1a, h2a, h3a, h4a, h5a, h6, h7, -⟩ := id hX
                            first | refine zz_iast2 C rfl (by omega) (by omega) dX2_readOrder_361 ?_ | refine zz_iast C (by first | assumption | exact zz_us | exact zz_lk1 (by assumption) (by assumption) | exact zz_lk3 (hd _ _ (by decide) (by decide) (by decide)) (by assumption) | exact zz_uf (by assumption) (by assumption) | exact zz_lk3 (zz_xi (by assumption) (by assumption)) (zz_lk1 (by assumption) (by assumption)) | exact zz_lk3 (hd _ _ (by decide) (by decide) (by decide)) (zz_lk3 (hd _ _ (by decide) (by decide) (by decide)) (by assumption)) | (simp only [zz_up]; simp_all; done)) rfl (by omega) (by omega) dX2_readOrder_361 ?_
                            refine zz_gen (P := fun h' => tw_X D h' x ad _ _ _ _ _ _ _ _ _ _ _ _ ∧ tw_F x ad h h') ⟨hX.u7 _, hF.tr (tw_F.up 7 (by decide))⟩ (fun hz hP => ?_)
                            obtain ⟨hX, hF⟩ := hP
                            clear hx h0 h1a h2a h3a h4a h5a h6 h7
                            obtain ⟨hx, h0, h1a, h2a, h3a, h4a, h5a, h6, h7, -⟩ := id hX
                            refine zz_vret C dX2_readOrder_362 rfl rfl ?_
                            first
                            | exact absurd c259 (by rw [c224]; decide)
                            | exact absurd c218 c259
                            | exact absurd c300 c341
                            | exact absurd c341 (by rw [c306]; decide)
                            | (refine ⟨rfl, ?_, hF⟩
                               first
                               | (rw [show tp_ord pd len to (pos, wr) = _ from if_pos c218]; exact hX)
                               | (rw [show tp_ord pd len to (pos, wr) = _ from (if_neg c218).trans (if_pos c224)]; exact hX)
                               | (rw [show tp_ord pd len to (pos, wr) = _ from (if_neg c218).trans ((if_neg c224).trans (if_pos c279))]; exact hX)
                               | (rw [show tp_ord pd len to (pos, wr) = _ from (if_neg c218).trans ((if_neg c224).trans ((if_neg c279).trans (if_pos c300)))]; exact hX)
                               | (rw [show tp_ord pd len to (pos, wr) = _ from (if_neg c218).trans ((if_neg c224).trans ((if_neg c279).trans ((if_neg c300).trans (if_pos c306))))]; exact hX)
                               | (rw [show tp_ord pd len to (pos, wr) = _ from (if_neg c218).trans ((if_neg c224).trans ((if_neg c279).trans ((if_neg c300).trans (if_neg c306))))]; exact hX))
                          · first | refine zz_aload_n C dX2_readOrder_344 rfl ?_ | refine zz_aload_nN C dX2_readOrder_344 rfl ?_
                            refine zz_bipush (v := 64) C dX2_readOrder_345 (by decide) ?_
                            refine zz_callV C zy_X2_takesBehind (ct_X2_takesBehind hlen (by first | exact tp_o2_le hpos | exact tp_o3_le hpos | exact tp_beh_le (tp_o3_le hpos) (by decide) | exact tp_beh_le (tp_beh_le (tp_o3_le hpos) (by decide)) (by decide) | exact tp_take_le (tp_o3_le hpos) (by decide) | exact tp_take_le (tp_take_le (tp_o3_le hpos) (by decide)) (by decide)) (by decide) hX) rfl q1575 (by first | assumption | exact zz_us | exact zz_lk1 (by assumption) (by assumption) | exact zz_lk3 (hd _ _ (by decide) (by decide) (by decide)) (by assumption) | exact zz_uf (by assumption) (by assumption) | exact zz_lk3 (zz_xi (by assumption) (by assumption)) (zz_lk1 (by assumption) (by assumption)) | exact zz_lk3 (hd _ _ (by decide) (by decide) (by decide)) (zz_lk3 (hd _ _ (by decide) (by decide) (by decide)) (by assumption)) | (simp only [zz_up]; simp_all; done)) rfl rfl rfl rfl rfl rfl dX2_readOrder_347 ⟨Nat.le_of_ble_eq_true rfl, Nat.le_of_ble_eq_true rfl⟩ (fun v hz hp => ?_)
                            obtain ⟨rfl, hX2, hF2⟩ := hp
                            have hF := hF.tr hF2
                            have hX := hX2
                            clear hx h0 h1a h2a h3a h4a h5a h6 h7
                            obtain ⟨hx, h0, h1a, h2a, h3a, h4a, h5a, h6, h7, -⟩ := id hX
                            refine zz_goto (tgt := 361) C dX2_readOrder_350 (by decide) ?_
                            first | refine zz_iast2 C rfl (by omega) (by omega) dX2_readOrder_361 ?_ | refine zz_iast C (by first | assumption | exact zz_us | exact zz_lk1 (by assumption) (by assumption) | exact zz_lk3 (hd _ _ (by decide) (by decide) (by decide)) (by assumption) | exact zz_uf (by assumption) (by assumption) | exact zz_lk3 (zz_xi (by assumption) (by assumption)) (zz_lk1 (by assumption) (by assumption)) | exact zz_lk3 (hd _ _ (by decide) (by decide) (by decide)) (zz_lk3 (hd _ _ (by decide) (by decide) (by decide)) (by assumption)) | (simp only [zz_up]; simp_all; done)) rfl (by omega) (by omega) dX2_readOrder_361 ?_
                            refine zz_gen (P := fun h' => tw_X D h' x ad _ _ _ _ _ _ _ _ _ _ _ _ ∧ tw_F x ad h h') ⟨hX.u7 _, hF.tr (tw_F.up 7 (by decide))⟩ (fun hz hP => ?_)
                            obtain ⟨hX, hF⟩ := hP
                            clear hx h0 h1a h2a h3a h4a h5a h6 h7
                            obtain ⟨hx, h0, h1a, h2a, h3a, h4a, h5a, h6, h7, -⟩ := id hX
                            refine zz_vret C dX2_readOrder_362 rfl rfl ?_
                            first
                            | exact absurd c259 (by rw [c224]; decide)
                            | exact absurd c218 c259
                            | exact absurd c300 c341
                            | exact absurd c341 (by rw [c306]; decide)
                            | (refine ⟨rfl, ?_, hF⟩
                               first
                               | (rw [show tp_ord pd len to (pos, wr) = _ from if_pos c218]; exact hX)
                               | (rw [show tp_ord pd len to (pos, wr) = _ from (if_neg c218).trans (if_pos c224)]; exact hX)
                               | (rw [show tp_ord pd len to (pos, wr) = _ from (if_neg c218).trans ((if_neg c224).trans (if_pos c279))]; exact hX)
                               | (rw [show tp_ord pd len to (pos, wr) = _ from (if_neg c218).trans ((if_neg c224).trans ((if_neg c279).trans (if_pos c300)))]; exact hX)
                               | (rw [show tp_ord pd len to (pos, wr) = _ from (if_neg c218).trans ((if_neg c224).trans ((if_neg c279).trans ((if_neg c300).trans (if_pos c306))))]; exact hX)
                               | (rw [show tp_ord pd len to (pos, wr) = _ from (if_neg c218).trans ((if_neg c224).trans ((if_neg c279).trans ((if_neg c300).trans (if_neg c306))))]; exact hX))
                        · refine zz_iload_n C dX2_readOrder_303 rfl ?_
                          refine zz_bipush (v := 108) C dX2_readOrder_304 (by decide) ?_
                          refine zz_icmp_ne (tgt := 362) C dX2_readOrder_306 (by decide) (fun c306 => ?_) (fun c306 => ?_)
                          · refine zz_vret C dX2_readOrder_362 rfl rfl ?_
                            first
                            | exact absurd c259 (by rw [c224]; decide)
                            | exact absurd c218 c259
                            | exact absurd c300 c341
                            | exact absurd c341 (by rw [c306]; decide)
                            | (refine ⟨rfl, ?_, hF⟩
                               first
                               | (rw [show tp_ord pd len to (pos, wr) = _ from if_pos c218]; exact hX)
                               | (rw [show tp_ord pd len to (pos, wr) = _ from (if_neg c218).trans (if_pos c224)]; exact hX)
                               | (rw [show tp_ord pd len to (pos, wr) = _ from (if_neg c218).trans ((if_neg c224).trans (if_pos c279))]; exact hX)
                               | (rw [show tp_ord pd len to (pos, wr) = _ from (if_neg c218).trans ((if_neg c224).trans ((if_neg c279).trans (if_pos c300)))]; exact hX)
                               | (rw [show tp_ord pd len to (pos, wr) = _ from (if_neg c218).trans ((if_neg c224).trans ((if_neg c279).trans ((if_neg c300).trans (if_pos c306))))]; exact hX)
                               | (rw [show tp_ord pd len to (pos, wr) = _ from (if_neg c218).trans ((if_neg c224).trans ((if_neg c279).trans ((if_neg c300).trans (if_neg c306))))]; exact hX))
                          · first | refine zz_aload_n C dX2_readOrder_309 rfl ?_ | refine zz_aload_nN C dX2_readOrder_309 rfl ?_
                            refine zz_bipush (v := 46) C dX2_readOrder_310 (by decide) ?_
                            refine zz_bipush (v := 46) C dX2_readOrder_312 (by decide) ?_
                            refine zz_callV C zy_X2_takes (ct_X2_takes hlen (by first | exact tp_o2_le hpos | exact tp_o3_le hpos | exact tp_beh_le (tp_o3_le hpos) (by decide) | exact tp_beh_le (tp_beh_le (tp_o3_le hpos) (by decide)) (by decide) | exact tp_take_le (tp_o3_le hpos) (by decide) | exact tp_take_le (tp_take_le (tp_o3_le hpos) (by decide)) (by decide)) hX) rfl q1567 (by first | assumption | exact zz_us | exact zz_lk1 (by assumption) (by assumption) | exact zz_lk3 (hd _ _ (by decide) (by decide) (by decide)) (by assumption) | exact zz_uf (by assumption) (by assumption) | exact zz_lk3 (zz_xi (by assumption) (by assumption)) (zz_lk1 (by assumption) (by assumption)) | exact zz_lk3 (hd _ _ (by decide) (by decide) (by decide)) (zz_lk3 (hd _ _ (by decide) (by decide) (by decide)) (by assumption)) | (simp only [zz_up]; simp_all; done)) rfl rfl rfl rfl rfl rfl dX2_readOrder_314 ⟨Nat.le_of_ble_eq_true rfl, Nat.le_of_ble_eq_true rfl⟩ (fun v hz hp => ?_)
                            obtain ⟨rfl, hX2, hF2⟩ := hp
                            have hF := hF.tr hF2
                            have hX := hX2
                            clear hx h0 h1a h2a h3a h4a h5a h6 h7
                            obtain ⟨hx, h0, h1a, h2a, h3a, h4a, h5a, h6, h7, -⟩ := id hX
                            refine zz_istore C dX2_readOrder_317 (by decide) ?_
                            first | refine zz_aload_n C dX2_readOrder_319 rfl ?_ | refine zz_aload_nN C dX2_readOrder_319 rfl ?_
                            refine zz_get C rfl (by first | assumption | exact zz_us | exact zz_lk1 (by assumption) (by assumption) | exact zz_lk3 (hd _ _ (by decide) (by decide) (by decide)) (by assumption) | exact zz_uf (by assumption) (by assumption) | exact zz_lk3 (zz_xi (by assumption) (by assumption)) (zz_lk1 (by assumption) (by assumption)) | exact zz_lk3 (hd _ _ (by decide) (by decide) (by decide)) (zz_lk3 (hd _ _ (by decide) (by decide) (by decide)) (by assumption)) | (simp only [zz_up]; simp_all; done)) rfl in_X2 11 rfl q1241 (fun _ h => h) (by first | rfl | assumption) dX2_readOrder_320 ?_
                            refine zz_iconst (v := nI 2) C dX2_readOrder_323 (by decide) ?_
                            first | refine zz_aload_n C dX2_readOrder_324 rfl ?_ | refine zz_aload_nN C dX2_readOrder_324 rfl ?_
                            refine zz_bipush (v := 48) C dX2_readOrder_325 (by decide) ?_
                            refine zz_bipush (v := 57) C dX2_readOrder_327 (by decide) ?_
                            refine zz_callV C zy_X2_takes (ct_X2_takes hlen (by first | exact tp_o2_le hpos | exact tp_o3_le hpos | exact tp_beh_le (tp_o3_le hpos) (by decide) | exact tp_beh_le (tp_beh_le (tp_o3_le hpos) (by decide)) (by decide) | exact tp_take_le (tp_o3_le hpos) (by decide) | exact tp_take_le (tp_take_le (tp_o3_le hpos) (by decide)) (by decide)) hX) rfl q1567 (by first | assumption | exact zz_us | exact zz_lk1 (by assumption) (by assumption) | exact zz_lk3 (hd _ _ (by decide) (by decide) (by decide)) (by assumption) | exact zz_uf (by assumption) (by assumption) | exact zz_lk3 (zz_xi (by assumption) (by assumption)) (zz_lk1 (by assumption) (by assumption)) | exact zz_lk3 (hd _ _ (by decide) (by decide) (by decide)) (zz_lk3 (hd _ _ (by decide) (by decide) (by decide)) (by assumption)) | (simp only [zz_up]; simp_all; done)) rfl rfl rfl rfl rfl rfl dX2_readOrder_329 ⟨Nat.le_of_ble_eq_true rfl, Nat.le_of_ble_eq_true rfl⟩ (fun v hz hp => ?_)
                            obtain ⟨rfl, hX2, hF2⟩ := hp
                            have hF := hF.tr hF2
                            have hX := hX2
                            clear hx h0 h1a h2a h3a h4a h5a h6 h7
                            obtain ⟨hx, h0, h1a, h2a, h3a, h4a, h5a, h6, h7, -⟩ := id hX
                            first | refine zz_iast2 C rfl (by omega) (by omega) dX2_readOrder_332 ?_ | refine zz_iast C (by first | assumption | exact zz_us | exact zz_lk1 (by assumption) (by assumption) | exact zz_lk3 (hd _ _ (by decide) (by decide) (by decide)) (by assumption) | exact zz_uf (by assumption) (by assumption) | exact zz_lk3 (zz_xi (by assumption) (by assumption)) (zz_lk1 (by assumption) (by assumption)) | exact zz_lk3 (hd _ _ (by decide) (by decide) (by decide)) (zz_lk3 (hd _ _ (by decide) (by decide) (by decide)) (by assumption)) | (simp only [zz_up]; simp_all; done)) rfl (by omega) (by omega) dX2_readOrder_332 ?_
                            refine zz_gen (P := fun h' => tw_X D h' x ad _ _ _ _ _ _ _ _ _ _ _ _ ∧ tw_F x ad h h') ⟨hX.u7 _, hF.tr (tw_F.up 7 (by decide))⟩ (fun hz hP => ?_)
                            obtain ⟨hX, hF⟩ := hP
                            clear hx h0 h1a h2a h3a h4a h5a h6 h7
                            obtain ⟨hx, h0, h1a, h2a, h3a, h4a, h5a, h6, h7, -⟩ := id hX
                            first | refine zz_aload_n C dX2_readOrder_333 rfl ?_ | refine zz_aload_nN C dX2_readOrder_333 rfl ?_
                            refine zz_get C rfl (by first | assumption | exact zz_us | exact zz_lk1 (by assumption) (by assumption) | exact zz_lk3 (hd _ _ (by decide) (by decide) (by decide)) (by assumption) | exact zz_uf (by assumption) (by assumption) | exact zz_lk3 (zz_xi (by assumption) (by assumption)) (zz_lk1 (by assumption) (by assumption)) | exact zz_lk3 (hd _ _ (by decide) (by decide) (by decide)) (zz_lk3 (hd _ _ (by decide) (by decide) (by decide)) (by assumption)) | (simp only [zz_up]; simp_all; done)) rfl in_X2 11 rfl q1241 (fun _ h => h) (by first | rfl | assumption) dX2_readOrder_334 ?_
                            refine zz_iconst (v := nI 3) C dX2_readOrder_337 (by decide) ?_
                            refine zz_iload_n C dX2_readOrder_338 rfl ?_
                            refine zz_bipush (v := 99) C dX2_readOrder_339 (by decide) ?_
                            refine zz_icmp_ne (tgt := 353) C dX2_readOrder_341 (by decide) (fun c341 => ?_) (fun c341 => ?_)
                            · first | refine zz_aload_n C dX2_readOrder_353 rfl ?_ | refine zz_aload_nN C dX2_readOrder_353 rfl ?_
                              refine zz_bipush (v := 48) C dX2_readOrder_354 (by decide) ?_
                              refine zz_bipush (v := 57) C dX2_readOrder_356 (by decide) ?_
                              refine zz_callV C zy_X2_takes (ct_X2_takes hlen (by first | exact tp_o2_le hpos | exact tp_o3_le hpos | exact tp_beh_le (tp_o3_le hpos) (by decide) | exact tp_beh_le (tp_beh_le (tp_o3_le hpos) (by decide)) (by decide) | exact tp_take_le (tp_o3_le hpos) (by decide) | exact tp_take_le (tp_take_le (tp_o3_le hpos) (by decide)) (by decide)) hX) rfl q1567 (by first | assumption | exact zz_us | exact zz_lk1 (by assumption) (by assumption) | exact zz_lk3 (hd _ _ (by decide) (by decide) (by decide)) (by assumption) | exact zz_uf (by assumption) (by assumption) | exact zz_lk3 (zz_xi (by assumption) (by assumption)) (zz_lk1 (by assumption) (by assumption)) | exact zz_lk3 (hd _ _ (by decide) (by decide) (by decide)) (zz_lk3 (hd _ _ (by decide) (by decide) (by decide)) (by assumption)) | (simp only [zz_up]; simp_all; done)) rfl rfl rfl rfl rfl rfl dX2_readOrder_358 ⟨Nat.le_of_ble_eq_true rfl, Nat.le_of_ble_eq_true rfl⟩ (fun v hz hp => ?_)
                              obtain ⟨rfl, hX2, hF2⟩ := hp
                              have hF := hF.tr hF2
                              have hX := hX2
                              clear hx h0 h1a h2a h3a h4a h5a h6 h7
                              obtain ⟨hx, h0, h1a, h2a, h3a, h4a, h5a, h6, h7, -⟩ := id hX
                              first | refine zz_iast2 C rfl (by omega) (by omega) dX2_readOrder_361 ?_ | refine zz_iast C (by first | assumption | exact zz_us | exact zz_lk1 (by assumption) (by assumption) | exact zz_lk3 (hd _ _ (by decide) (by decide) (by decide)) (by assumption) | exact zz_uf (by assumption) (by assumption) | exact zz_lk3 (zz_xi (by assumption) (by assumption)) (zz_lk1 (by assumption) (by assumption)) | exact zz_lk3 (hd _ _ (by decide) (by decide) (by decide)) (zz_lk3 (hd _ _ (by decide) (by decide) (by decide)) (by assumption)) | (simp only [zz_up]; simp_all; done)) rfl (by omega) (by omega) dX2_readOrder_361 ?_
                              refine zz_gen (P := fun h' => tw_X D h' x ad _ _ _ _ _ _ _ _ _ _ _ _ ∧ tw_F x ad h h') ⟨hX.u7 _, hF.tr (tw_F.up 7 (by decide))⟩ (fun hz hP => ?_)
                              obtain ⟨hX, hF⟩ := hP
                              clear hx h0 h1a h2a h3a h4a h5a h6 h7
                              obtain ⟨hx, h0, h1a, h2a, h3a, h4a, h5a, h6, h7, -⟩ := id hX
                              refine zz_vret C dX2_readOrder_362 rfl rfl ?_
                              first
                              | exact absurd c259 (by rw [c224]; decide)
                              | exact absurd c218 c259
                              | exact absurd c300 c341
                              | exact absurd c341 (by rw [c306]; decide)
                              | (refine ⟨rfl, ?_, hF⟩
                                 first
                                 | (rw [show tp_ord pd len to (pos, wr) = _ from if_pos c218]; exact hX)
                                 | (rw [show tp_ord pd len to (pos, wr) = _ from (if_neg c218).trans (if_pos c224)]; exact hX)
                                 | (rw [show tp_ord pd len to (pos, wr) = _ from (if_neg c218).trans ((if_neg c224).trans (if_pos c279))]; exact hX)
                                 | (rw [show tp_ord pd len to (pos, wr) = _ from (if_neg c218).trans ((if_neg c224).trans ((if_neg c279).trans (if_pos c300)))]; exact hX)
                                 | (rw [show tp_ord pd len to (pos, wr) = _ from (if_neg c218).trans ((if_neg c224).trans ((if_neg c279).trans ((if_neg c300).trans (if_pos c306))))]; exact hX)
                                 | (rw [show tp_ord pd len to (pos, wr) = _ from (if_neg c218).trans ((if_neg c224).trans ((if_neg c279).trans ((if_neg c300).trans (if_neg c306))))]; exact hX))
                            · first | refine zz_aload_n C dX2_readOrder_344 rfl ?_ | refine zz_aload_nN C dX2_readOrder_344 rfl ?_
                              refine zz_bipush (v := 64) C dX2_readOrder_345 (by decide) ?_
                              refine zz_callV C zy_X2_takesBehind (ct_X2_takesBehind hlen (by first | exact tp_o2_le hpos | exact tp_o3_le hpos | exact tp_beh_le (tp_o3_le hpos) (by decide) | exact tp_beh_le (tp_beh_le (tp_o3_le hpos) (by decide)) (by decide) | exact tp_take_le (tp_o3_le hpos) (by decide) | exact tp_take_le (tp_take_le (tp_o3_le hpos) (by decide)) (by decide)) (by decide) hX) rfl q1575 (by first | assumption | exact zz_us | exact zz_lk1 (by assumption) (by assumption) | exact zz_lk3 (hd _ _ (by decide) (by decide) (by decide)) (by assumption) | exact zz_uf (by assumption) (by assumption) | exact zz_lk3 (zz_xi (by assumption) (by assumption)) (zz_lk1 (by assumption) (by assumption)) | exact zz_lk3 (hd _ _ (by decide) (by decide) (by decide)) (zz_lk3 (hd _ _ (by decide) (by decide) (by decide)) (by assumption)) | (simp only [zz_up]; simp_all; done)) rfl rfl rfl rfl rfl rfl dX2_readOrder_347 ⟨Nat.le_of_ble_eq_true rfl, Nat.le_of_ble_eq_true rfl⟩ (fun v hz hp => ?_)
                              obtain ⟨rfl, hX2, hF2⟩ := hp
                              have hF := hF.tr hF2
                              have hX := hX2
                              clear hx h0 h1a h2a h3a h4a h5a h6 h7
                              obtain ⟨hx, h0, h1a, h2a, h3a, h4a, h5a, h6, h7, -⟩ := id hX
                              refine zz_goto (tgt := 361) C dX2_readOrder_350 (by decide) ?_
                              first | refine zz_iast2 C rfl (by omega) (by omega) dX2_readOrder_361 ?_ | refine zz_iast C (by first | assumption | exact zz_us | exact zz_lk1 (by assumption) (by assumption) | exact zz_lk3 (hd _ _ (by decide) (by decide) (by decide)) (by assumption) | exact zz_uf (by assumption) (by assumption) | exact zz_lk3 (zz_xi (by assumption) (by assumption)) (zz_lk1 (by assumption) (by assumption)) | exact zz_lk3 (hd _ _ (by decide) (by decide) (by decide)) (zz_lk3 (hd _ _ (by decide) (by decide) (by decide)) (by assumption)) | (simp only [zz_up]; simp_all; done)) rfl (by omega) (by omega) dX2_readOrder_361 ?_
                              refine zz_gen (P := fun h' => tw_X D h' x ad _ _ _ _ _ _ _ _ _ _ _ _ ∧ tw_F x ad h h') ⟨hX.u7 _, hF.tr (tw_F.up 7 (by decide))⟩ (fun hz hP => ?_)
                              obtain ⟨hX, hF⟩ := hP
                              clear hx h0 h1a h2a h3a h4a h5a h6 h7
                              obtain ⟨hx, h0, h1a, h2a, h3a, h4a, h5a, h6, h7, -⟩ := id hX
                              refine zz_vret C dX2_readOrder_362 rfl rfl ?_
                              first
                              | exact absurd c259 (by rw [c224]; decide)
                              | exact absurd c218 c259
                              | exact absurd c300 c341
                              | exact absurd c341 (by rw [c306]; decide)
                              | (refine ⟨rfl, ?_, hF⟩
                                 first
                                 | (rw [show tp_ord pd len to (pos, wr) = _ from if_pos c218]; exact hX)
                                 | (rw [show tp_ord pd len to (pos, wr) = _ from (if_neg c218).trans (if_pos c224)]; exact hX)
                                 | (rw [show tp_ord pd len to (pos, wr) = _ from (if_neg c218).trans ((if_neg c224).trans (if_pos c279))]; exact hX)
                                 | (rw [show tp_ord pd len to (pos, wr) = _ from (if_neg c218).trans ((if_neg c224).trans ((if_neg c279).trans (if_pos c300)))]; exact hX)
                                 | (rw [show tp_ord pd len to (pos, wr) = _ from (if_neg c218).trans ((if_neg c224).trans ((if_neg c279).trans ((if_neg c300).trans (if_pos c306))))]; exact hX)
                                 | (rw [show tp_ord pd len to (pos, wr) = _ from (if_neg c218).trans ((if_neg c224).trans ((if_neg c279).trans ((if_neg c300).trans (if_neg c306))))]; exact hX))
                      · first | refine zz_aload_n C dX2_readOrder_282 rfl ?_ | refine zz_aload_nN C dX2_readOrder_282 rfl ?_
                        refine zz_get C rfl (by first | assumption | exact zz_us | exact zz_lk1 (by assumption) (by assumption) | exact zz_lk3 (hd _ _ (by decide) (by decide) (by decide)) (by assumption) | exact zz_uf (by assumption) (by assumption) | exact zz_lk3 (zz_xi (by assumption) (by assumption)) (zz_lk1 (by assumption) (by assumption)) | exact zz_lk3 (hd _ _ (by decide) (by decide) (by decide)) (zz_lk3 (hd _ _ (by decide) (by decide) (by decide)) (by assumption)) | (simp only [zz_up]; simp_all; done)) rfl in_X2 11 rfl q1241 (fun _ h => h) (by first | rfl | assumption) dX2_readOrder_283 ?_
                        refine zz_iconst (v := nI 2) C dX2_readOrder_286 (by decide) ?_
                        first | refine zz_aload_n C dX2_readOrder_287 rfl ?_ | refine zz_aload_nN C dX2_readOrder_287 rfl ?_
                        refine zz_bipush (v := 61) C dX2_readOrder_288 (by decide) ?_
                        refine zz_callV C zy_X2_takesBehind (ct_X2_takesBehind hlen (by first | exact tp_o2_le hpos | exact tp_o3_le hpos | exact tp_beh_le (tp_o3_le hpos) (by decide) | exact tp_beh_le (tp_beh_le (tp_o3_le hpos) (by decide)) (by decide) | exact tp_take_le (tp_o3_le hpos) (by decide) | exact tp_take_le (tp_take_le (tp_o3_le hpos) (by decide)) (by decide)) (by decide) hX) rfl q1575 (by first | assumption | exact zz_us | exact zz_lk1 (by assumption) (by assumption) | exact zz_lk3 (hd _ _ (by decide) (by decide) (by decide)) (by assumption) | exact zz_uf (by assumption) (by assumption) | exact zz_lk3 (zz_xi (by assumption) (by assumption)) (zz_lk1 (by assumption) (by assumption)) | exact zz_lk3 (hd _ _ (by decide) (by decide) (by decide)) (zz_lk3 (hd _ _ (by decide) (by decide) (by decide)) (by assumption)) | (simp only [zz_up]; simp_all; done)) rfl rfl rfl rfl rfl rfl dX2_readOrder_290 ⟨Nat.le_of_ble_eq_true rfl, Nat.le_of_ble_eq_true rfl⟩ (fun v hz hp => ?_)
                        obtain ⟨rfl, hX2, hF2⟩ := hp
                        have hF := hF.tr hF2
                        have hX := hX2
                        clear hx h0 h1a h2a h3a h4a h5a h6 h7
                        obtain ⟨hx, h0, h1a, h2a, h3a, h4a, h5a, h6, h7, -⟩ := id hX
                        first | refine zz_iast2 C rfl (by omega) (by omega) dX2_readOrder_293 ?_ | refine zz_iast C (by first | assumption | exact zz_us | exact zz_lk1 (by assumption) (by assumption) | exact zz_lk3 (hd _ _ (by decide) (by decide) (by decide)) (by assumption) | exact zz_uf (by assumption) (by assumption) | exact zz_lk3 (zz_xi (by assumption) (by assumption)) (zz_lk1 (by assumption) (by assumption)) | exact zz_lk3 (hd _ _ (by decide) (by decide) (by decide)) (zz_lk3 (hd _ _ (by decide) (by decide) (by decide)) (by assumption)) | (simp only [zz_up]; simp_all; done)) rfl (by omega) (by omega) dX2_readOrder_293 ?_
                        refine zz_gen (P := fun h' => tw_X D h' x ad _ _ _ _ _ _ _ _ _ _ _ _ ∧ tw_F x ad h h') ⟨hX.u7 _, hF.tr (tw_F.up 7 (by decide))⟩ (fun hz hP => ?_)
                        obtain ⟨hX, hF⟩ := hP
                        clear hx h0 h1a h2a h3a h4a h5a h6 h7
                        obtain ⟨hx, h0, h1a, h2a, h3a, h4a, h5a, h6, h7, -⟩ := id hX
                        refine zz_goto (tgt := 362) C dX2_readOrder_294 (by decide) ?_
                        refine zz_vret C dX2_readOrder_362 rfl rfl ?_
                        first
                        | exact absurd c259 (by rw [c224]; decide)
                        | exact absurd c218 c259
                        | exact absurd c300 c341
                        | exact absurd c341 (by rw [c306]; decide)
                        | (refine ⟨rfl, ?_, hF⟩
                           first
                           | (rw [show tp_ord pd len to (pos, wr) = _ from if_pos c218]; exact hX)
                           | (rw [show tp_ord pd len to (pos, wr) = _ from (if_neg c218).trans (if_pos c224)]; exact hX)
                           | (rw [show tp_ord pd len to (pos, wr) = _ from (if_neg c218).trans ((if_neg c224).trans (if_pos c279))]; exact hX)
                           | (rw [show tp_ord pd len to (pos, wr) = _ from (if_neg c218).trans ((if_neg c224).trans ((if_neg c279).trans (if_pos c300)))]; exact hX)
                           | (rw [show tp_ord pd len to (pos, wr) = _ from (if_neg c218).trans ((if_neg c224).trans ((if_neg c279).trans ((if_neg c300).trans (if_pos c306))))]; exact hX)
                           | (rw [show tp_ord pd len to (pos, wr) = _ from (if_neg c218).trans ((if_neg c224).trans ((if_neg c279).trans ((if_neg c300).trans (if_neg c306))))]; exact hX))
                    · first | refine zz_aload_n C dX2_readOrder_227 rfl ?_ | refine zz_aload_nN C dX2_readOrder_227 rfl ?_
                      refine zz_get C rfl (by first | assumption | exact zz_us | exact zz_lk1 (by assumption) (by assumption) | exact zz_lk3 (hd _ _ (by decide) (by decide) (by decide)) (by assumption) | exact zz_uf (by assumption) (by assumption) | exact zz_lk3 (zz_xi (by assumption) (by assumption)) (zz_lk1 (by assumption) (by assumption)) | exact zz_lk3 (hd _ _ (by decide) (by decide) (by decide)) (zz_lk3 (hd _ _ (by decide) (by decide) (by decide)) (by assumption)) | (simp only [zz_up]; simp_all; done)) rfl in_X2 11 rfl q1241 (fun _ h => h) (by first | rfl | assumption) dX2_readOrder_228 ?_
                      refine zz_iconst (v := nI 2) C dX2_readOrder_231 (by decide) ?_
                      first | refine zz_aload_n C dX2_readOrder_232 rfl ?_ | refine zz_aload_nN C dX2_readOrder_232 rfl ?_
                      refine zz_bipush (v := 120) C dX2_readOrder_233 (by decide) ?_
                      refine zz_callV C zy_X2_takesBehind (ct_X2_takesBehind hlen (by first | exact tp_o2_le hpos | exact tp_o3_le hpos | exact tp_beh_le (tp_o3_le hpos) (by decide) | exact tp_beh_le (tp_beh_le (tp_o3_le hpos) (by decide)) (by decide) | exact tp_take_le (tp_o3_le hpos) (by decide) | exact tp_take_le (tp_take_le (tp_o3_le hpos) (by decide)) (by decide)) (by decide) hX) rfl q1575 (by first | assumption | exact zz_us | exact zz_lk1 (by assumption) (by assumption) | exact zz_lk3 (hd _ _ (by decide) (by decide) (by decide)) (by assumption) | exact zz_uf (by assumption) (by assumption) | exact zz_lk3 (zz_xi (by assumption) (by assumption)) (zz_lk1 (by assumption) (by assumption)) | exact zz_lk3 (hd _ _ (by decide) (by decide) (by decide)) (zz_lk3 (hd _ _ (by decide) (by decide) (by decide)) (by assumption)) | (simp only [zz_up]; simp_all; done)) rfl rfl rfl rfl rfl rfl dX2_readOrder_235 ⟨Nat.le_of_ble_eq_true rfl, Nat.le_of_ble_eq_true rfl⟩ (fun v hz hp => ?_)
                      obtain ⟨rfl, hX2, hF2⟩ := hp
                      have hF := hF.tr hF2
                      have hX := hX2
                      clear hx h0 h1a h2a h3a h4a h5a h6 h7
                      obtain ⟨hx, h0, h1a, h2a, h3a, h4a, h5a, h6, h7, -⟩ := id hX
                      first | refine zz_iast2 C rfl (by omega) (by omega) dX2_readOrder_238 ?_ | refine zz_iast C (by first | assumption | exact zz_us | exact zz_lk1 (by assumption) (by assumption) | exact zz_lk3 (hd _ _ (by decide) (by decide) (by decide)) (by assumption) | exact zz_uf (by assumption) (by assumption) | exact zz_lk3 (zz_xi (by assumption) (by assumption)) (zz_lk1 (by assumption) (by assumption)) | exact zz_lk3 (hd _ _ (by decide) (by decide) (by decide)) (zz_lk3 (hd _ _ (by decide) (by decide) (by decide)) (by assumption)) | (simp only [zz_up]; simp_all; done)) rfl (by omega) (by omega) dX2_readOrder_238 ?_
                      refine zz_gen (P := fun h' => tw_X D h' x ad _ _ _ _ _ _ _ _ _ _ _ _ ∧ tw_F x ad h h') ⟨hX.u7 _, hF.tr (tw_F.up 7 (by decide))⟩ (fun hz hP => ?_)
                      obtain ⟨hX, hF⟩ := hP
                      clear hx h0 h1a h2a h3a h4a h5a h6 h7
                      obtain ⟨hx, h0, h1a, h2a, h3a, h4a, h5a, h6, h7, -⟩ := id hX
                      first | refine zz_aload_n C dX2_readOrder_239 rfl ?_ | refine zz_aload_nN C dX2_readOrder_239 rfl ?_
                      refine zz_get C rfl (by first | assumption | exact zz_us | exact zz_lk1 (by assumption) (by assumption) | exact zz_lk3 (hd _ _ (by decide) (by decide) (by decide)) (by assumption) | exact zz_uf (by assumption) (by assumption) | exact zz_lk3 (zz_xi (by assumption) (by assumption)) (zz_lk1 (by assumption) (by assumption)) | exact zz_lk3 (hd _ _ (by decide) (by decide) (by decide)) (zz_lk3 (hd _ _ (by decide) (by decide) (by decide)) (by assumption)) | (simp only [zz_up]; simp_all; done)) rfl in_X2 11 rfl q1241 (fun _ h => h) (by first | rfl | assumption) dX2_readOrder_240 ?_
                      refine zz_iconst (v := nI 3) C dX2_readOrder_243 (by decide) ?_
                      first | refine zz_aload_n C dX2_readOrder_244 rfl ?_ | refine zz_aload_nN C dX2_readOrder_244 rfl ?_
                      refine zz_bipush (v := 120) C dX2_readOrder_245 (by decide) ?_
                      refine zz_callV C zy_X2_takesBehind (ct_X2_takesBehind hlen (by first | exact tp_o2_le hpos | exact tp_o3_le hpos | exact tp_beh_le (tp_o3_le hpos) (by decide) | exact tp_beh_le (tp_beh_le (tp_o3_le hpos) (by decide)) (by decide) | exact tp_take_le (tp_o3_le hpos) (by decide) | exact tp_take_le (tp_take_le (tp_o3_le hpos) (by decide)) (by decide)) (by decide) hX) rfl q1575 (by first | assumption | exact zz_us | exact zz_lk1 (by assumption) (by assumption) | exact zz_lk3 (hd _ _ (by decide) (by decide) (by decide)) (by assumption) | exact zz_uf (by assumption) (by assumption) | exact zz_lk3 (zz_xi (by assumption) (by assumption)) (zz_lk1 (by assumption) (by assumption)) | exact zz_lk3 (hd _ _ (by decide) (by decide) (by decide)) (zz_lk3 (hd _ _ (by decide) (by decide) (by decide)) (by assumption)) | (simp only [zz_up]; simp_all; done)) rfl rfl rfl rfl rfl rfl dX2_readOrder_247 ⟨Nat.le_of_ble_eq_true rfl, Nat.le_of_ble_eq_true rfl⟩ (fun v hz hp => ?_)
                      obtain ⟨rfl, hX2, hF2⟩ := hp
                      have hF := hF.tr hF2
                      have hX := hX2
                      clear hx h0 h1a h2a h3a h4a h5a h6 h7
                      obtain ⟨hx, h0, h1a, h2a, h3a, h4a, h5a, h6, h7, -⟩ := id hX
                      first | refine zz_iast2 C rfl (by omega) (by omega) dX2_readOrder_250 ?_ | refine zz_iast C (by first | assumption | exact zz_us | exact zz_lk1 (by assumption) (by assumption) | exact zz_lk3 (hd _ _ (by decide) (by decide) (by decide)) (by assumption) | exact zz_uf (by assumption) (by assumption) | exact zz_lk3 (zz_xi (by assumption) (by assumption)) (zz_lk1 (by assumption) (by assumption)) | exact zz_lk3 (hd _ _ (by decide) (by decide) (by decide)) (zz_lk3 (hd _ _ (by decide) (by decide) (by decide)) (by assumption)) | (simp only [zz_up]; simp_all; done)) rfl (by omega) (by omega) dX2_readOrder_250 ?_
                      refine zz_gen (P := fun h' => tw_X D h' x ad _ _ _ _ _ _ _ _ _ _ _ _ ∧ tw_F x ad h h') ⟨hX.u7 _, hF.tr (tw_F.up 7 (by decide))⟩ (fun hz hP => ?_)
                      obtain ⟨hX, hF⟩ := hP
                      clear hx h0 h1a h2a h3a h4a h5a h6 h7
                      obtain ⟨hx, h0, h1a, h2a, h3a, h4a, h5a, h6, h7, -⟩ := id hX
                      first | refine zz_aload_n C dX2_readOrder_251 rfl ?_ | refine zz_aload_nN C dX2_readOrder_251 rfl ?_
                      refine zz_get C rfl (by first | assumption | exact zz_us | exact zz_lk1 (by assumption) (by assumption) | exact zz_lk3 (hd _ _ (by decide) (by decide) (by decide)) (by assumption) | exact zz_uf (by assumption) (by assumption) | exact zz_lk3 (zz_xi (by assumption) (by assumption)) (zz_lk1 (by assumption) (by assumption)) | exact zz_lk3 (hd _ _ (by decide) (by decide) (by decide)) (zz_lk3 (hd _ _ (by decide) (by decide) (by decide)) (by assumption)) | (simp only [zz_up]; simp_all; done)) rfl in_X2 11 rfl q1241 (fun _ h => h) (by first | rfl | assumption) dX2_readOrder_252 ?_
                      refine zz_iconst (v := nI 4) C dX2_readOrder_255 (by decide) ?_
                      refine zz_iload_n C dX2_readOrder_256 rfl ?_
                      refine zz_bipush (v := 113) C dX2_readOrder_257 (by decide) ?_
                      refine zz_icmp_ne (tgt := 271) C dX2_readOrder_259 (by decide) (fun c259 => ?_) (fun c259 => ?_)
                      · refine zz_iconst (v := 0) C dX2_readOrder_271 (by decide) ?_
                        first | refine zz_iast2 C rfl (by omega) (by omega) dX2_readOrder_272 ?_ | refine zz_iast C (by first | assumption | exact zz_us | exact zz_lk1 (by assumption) (by assumption) | exact zz_lk3 (hd _ _ (by decide) (by decide) (by decide)) (by assumption) | exact zz_uf (by assumption) (by assumption) | exact zz_lk3 (zz_xi (by assumption) (by assumption)) (zz_lk1 (by assumption) (by assumption)) | exact zz_lk3 (hd _ _ (by decide) (by decide) (by decide)) (zz_lk3 (hd _ _ (by decide) (by decide) (by decide)) (by assumption)) | (simp only [zz_up]; simp_all; done)) rfl (by omega) (by omega) dX2_readOrder_272 ?_
                        refine zz_gen (P := fun h' => tw_X D h' x ad _ _ _ _ _ _ _ _ _ _ _ _ ∧ tw_F x ad h h') ⟨hX.u7 _, hF.tr (tw_F.up 7 (by decide))⟩ (fun hz hP => ?_)
                        obtain ⟨hX, hF⟩ := hP
                        clear hx h0 h1a h2a h3a h4a h5a h6 h7
                        obtain ⟨hx, h0, h1a, h2a, h3a, h4a, h5a, h6, h7, -⟩ := id hX
                        refine zz_goto (tgt := 362) C dX2_readOrder_273 (by decide) ?_
                        refine zz_vret C dX2_readOrder_362 rfl rfl ?_
                        first
                        | exact absurd c259 (by rw [c224]; decide)
                        | exact absurd c218 c259
                        | exact absurd c300 c341
                        | exact absurd c341 (by rw [c306]; decide)
                        | (refine ⟨rfl, ?_, hF⟩
                           first
                           | (rw [show tp_ord pd len to (pos, wr) = _ from if_pos c218]; exact hX)
                           | (rw [show tp_ord pd len to (pos, wr) = _ from (if_neg c218).trans (if_pos c224)]; exact hX)
                           | (rw [show tp_ord pd len to (pos, wr) = _ from (if_neg c218).trans ((if_neg c224).trans (if_pos c279))]; exact hX)
                           | (rw [show tp_ord pd len to (pos, wr) = _ from (if_neg c218).trans ((if_neg c224).trans ((if_neg c279).trans (if_pos c300)))]; exact hX)
                           | (rw [show tp_ord pd len to (pos, wr) = _ from (if_neg c218).trans ((if_neg c224).trans ((if_neg c279).trans ((if_neg c300).trans (if_pos c306))))]; exact hX)
                           | (rw [show tp_ord pd len to (pos, wr) = _ from (if_neg c218).trans ((if_neg c224).trans ((if_neg c279).trans ((if_neg c300).trans (if_neg c306))))]; exact hX))
                      · first | refine zz_aload_n C dX2_readOrder_262 rfl ?_ | refine zz_aload_nN C dX2_readOrder_262 rfl ?_
                        refine zz_bipush (v := 42) C dX2_readOrder_263 (by decide) ?_
                        refine zz_callV C zy_X2_takesBehind (ct_X2_takesBehind hlen (by first | exact tp_o2_le hpos | exact tp_o3_le hpos | exact tp_beh_le (tp_o3_le hpos) (by decide) | exact tp_beh_le (tp_beh_le (tp_o3_le hpos) (by decide)) (by decide) | exact tp_take_le (tp_o3_le hpos) (by decide) | exact tp_take_le (tp_take_le (tp_o3_le hpos) (by decide)) (by decide)) (by decide) hX) rfl q1575 (by first | assumption | exact zz_us | exact zz_lk1 (by assumption) (by assumption) | exact zz_lk3 (hd _ _ (by decide) (by decide) (by decide)) (by assumption) | exact zz_uf (by assumption) (by assumption) | exact zz_lk3 (zz_xi (by assumption) (by assumption)) (zz_lk1 (by assumption) (by assumption)) | exact zz_lk3 (hd _ _ (by decide) (by decide) (by decide)) (zz_lk3 (hd _ _ (by decide) (by decide) (by decide)) (by assumption)) | (simp only [zz_up]; simp_all; done)) rfl rfl rfl rfl rfl rfl dX2_readOrder_265 ⟨Nat.le_of_ble_eq_true rfl, Nat.le_of_ble_eq_true rfl⟩ (fun v hz hp => ?_)
                        obtain ⟨rfl, hX2, hF2⟩ := hp
                        have hF := hF.tr hF2
                        have hX := hX2
                        clear hx h0 h1a h2a h3a h4a h5a h6 h7
                        obtain ⟨hx, h0, h1a, h2a, h3a, h4a, h5a, h6, h7, -⟩ := id hX
                        refine zz_goto (tgt := 272) C dX2_readOrder_268 (by decide) ?_
                        first | refine zz_iast2 C rfl (by omega) (by omega) dX2_readOrder_272 ?_ | refine zz_iast C (by first | assumption | exact zz_us | exact zz_lk1 (by assumption) (by assumption) | exact zz_lk3 (hd _ _ (by decide) (by decide) (by decide)) (by assumption) | exact zz_uf (by assumption) (by assumption) | exact zz_lk3 (zz_xi (by assumption) (by assumption)) (zz_lk1 (by assumption) (by assumption)) | exact zz_lk3 (hd _ _ (by decide) (by decide) (by decide)) (zz_lk3 (hd _ _ (by decide) (by decide) (by decide)) (by assumption)) | (simp only [zz_up]; simp_all; done)) rfl (by omega) (by omega) dX2_readOrder_272 ?_
                        refine zz_gen (P := fun h' => tw_X D h' x ad _ _ _ _ _ _ _ _ _ _ _ _ ∧ tw_F x ad h h') ⟨hX.u7 _, hF.tr (tw_F.up 7 (by decide))⟩ (fun hz hP => ?_)
                        obtain ⟨hX, hF⟩ := hP
                        clear hx h0 h1a h2a h3a h4a h5a h6 h7
                        obtain ⟨hx, h0, h1a, h2a, h3a, h4a, h5a, h6, h7, -⟩ := id hX
                        refine zz_goto (tgt := 362) C dX2_readOrder_273 (by decide) ?_
                        refine zz_vret C dX2_readOrder_362 rfl rfl ?_
                        first
                        | exact absurd c259 (by rw [c224]; decide)
                        | exact absurd c218 c259
                        | exact absurd c300 c341
                        | exact absurd c341 (by rw [c306]; decide)
                        | (refine ⟨rfl, ?_, hF⟩
                           first
                           | (rw [show tp_ord pd len to (pos, wr) = _ from if_pos c218]; exact hX)
                           | (rw [show tp_ord pd len to (pos, wr) = _ from (if_neg c218).trans (if_pos c224)]; exact hX)
                           | (rw [show tp_ord pd len to (pos, wr) = _ from (if_neg c218).trans ((if_neg c224).trans (if_pos c279))]; exact hX)
                           | (rw [show tp_ord pd len to (pos, wr) = _ from (if_neg c218).trans ((if_neg c224).trans ((if_neg c279).trans (if_pos c300)))]; exact hX)
                           | (rw [show tp_ord pd len to (pos, wr) = _ from (if_neg c218).trans ((if_neg c224).trans ((if_neg c279).trans ((if_neg c300).trans (if_pos c306))))]; exact hX)
                           | (rw [show tp_ord pd len to (pos, wr) = _ from (if_neg c218).trans ((if_neg c224).trans ((if_neg c279).trans ((if_neg c300).trans (if_neg c306))))]; exact hX))
                · intro J214
                  refine zz_iload_n C dX2_readOrder_194 rfl ?_
                  first | refine zz_ifb_eq (tgt := 208) C dX2_readOrder_195 (by decide) (fun c195 => ?_) (fun c195 => ?_) | refine zz_if_eq (tgt := 208) C dX2_readOrder_195 (by decide) (fun c195 => ?_) (fun c195 => ?_)
                  · first | refine zz_aload_n C dX2_readOrder_208 rfl ?_ | refine zz_aload_nN C dX2_readOrder_208 rfl ?_
                    refine zz_get C rfl (by first | assumption | exact zz_us | exact zz_lk1 (by assumption) (by assumption) | exact zz_lk3 (hd _ _ (by decide) (by decide) (by decide)) (by assumption) | exact zz_uf (by assumption) (by assumption) | exact zz_lk3 (zz_xi (by assumption) (by assumption)) (zz_lk1 (by assumption) (by assumption)) | exact zz_lk3 (hd _ _ (by decide) (by decide) (by decide)) (zz_lk3 (hd _ _ (by decide) (by decide) (by decide)) (by assumption)) | (simp only [zz_up]; simp_all; done)) rfl in_X2 11 rfl q1241 (fun _ h => h) (by first | rfl | assumption) dX2_readOrder_209 ?_
                    refine zz_iconst (v := nI 1) C dX2_readOrder_212 (by decide) ?_
                    refine zz_iald C (by first | assumption | exact zz_us | exact zz_lk1 (by assumption) (by assumption) | exact zz_lk3 (hd _ _ (by decide) (by decide) (by decide)) (by assumption) | exact zz_uf (by assumption) (by assumption) | exact zz_lk3 (zz_xi (by assumption) (by assumption)) (zz_lk1 (by assumption) (by assumption)) | exact zz_lk3 (hd _ _ (by decide) (by decide) (by decide)) (zz_lk3 (hd _ _ (by decide) (by decide) (by decide)) (by assumption)) | (simp only [zz_up]; simp_all; done)) rfl (by omega) (by omega) dX2_readOrder_213 ?_
                    exact J214 _ (by rw [up_s]; first | exact zz_ift ‹_› | exact zz_iff ‹_›)
                  · first | refine zz_aload_n C dX2_readOrder_198 rfl ?_ | refine zz_aload_nN C dX2_readOrder_198 rfl ?_
                    refine zz_get C rfl (by first | assumption | exact zz_us | exact zz_lk1 (by assumption) (by assumption) | exact zz_lk3 (hd _ _ (by decide) (by decide) (by decide)) (by assumption) | exact zz_uf (by assumption) (by assumption) | exact zz_lk3 (zz_xi (by assumption) (by assumption)) (zz_lk1 (by assumption) (by assumption)) | exact zz_lk3 (hd _ _ (by decide) (by decide) (by decide)) (zz_lk3 (hd _ _ (by decide) (by decide) (by decide)) (by assumption)) | (simp only [zz_up]; simp_all; done)) rfl in_X2 11 rfl q1241 (fun _ h => h) (by first | rfl | assumption) dX2_readOrder_199 ?_
                    refine zz_iconst (v := nI 1) C dX2_readOrder_202 (by decide) ?_
                    refine zz_iald C (by first | assumption | exact zz_us | exact zz_lk1 (by assumption) (by assumption) | exact zz_lk3 (hd _ _ (by decide) (by decide) (by decide)) (by assumption) | exact zz_uf (by assumption) (by assumption) | exact zz_lk3 (zz_xi (by assumption) (by assumption)) (zz_lk1 (by assumption) (by assumption)) | exact zz_lk3 (hd _ _ (by decide) (by decide) (by decide)) (zz_lk3 (hd _ _ (by decide) (by decide) (by decide)) (by assumption)) | (simp only [zz_up]; simp_all; done)) rfl (by omega) (by omega) dX2_readOrder_203 ?_
                    refine zz_ineg C dX2_readOrder_204 ?_
                    refine zz_goto (tgt := 214) C dX2_readOrder_205 (by decide) ?_
                    exact J214 _ (by rw [up_s]; first | exact zz_ift ‹_› | exact zz_iff ‹_›)
              · first | refine zz_aload_n C dX2_readOrder_173 rfl ?_ | refine zz_aload_nN C dX2_readOrder_173 rfl ?_
                refine zz_bipush (v := 48) C dX2_readOrder_174 (by decide) ?_
                refine zz_bipush (v := 57) C dX2_readOrder_176 (by decide) ?_
                refine zz_callV C zy_X2_takes (ct_X2_takes hlen (tp_o2_le hpos) hX) rfl q1567 (by first | assumption | exact zz_us | exact zz_lk1 (by assumption) (by assumption) | exact zz_lk3 (hd _ _ (by decide) (by decide) (by decide)) (by assumption) | exact zz_uf (by assumption) (by assumption) | exact zz_lk3 (zz_xi (by assumption) (by assumption)) (zz_lk1 (by assumption) (by assumption)) | exact zz_lk3 (hd _ _ (by decide) (by decide) (by decide)) (zz_lk3 (hd _ _ (by decide) (by decide) (by decide)) (by assumption)) | (simp only [zz_up]; simp_all; done)) rfl rfl rfl rfl rfl rfl dX2_readOrder_178 ⟨Nat.le_of_ble_eq_true rfl, Nat.le_of_ble_eq_true rfl⟩ (fun v hz hp => ?_)
                obtain ⟨rfl, hX2, hF2⟩ := hp
                have e3 : tp_o3 pd len (pos, wr) = (tp_cur pd len (tp_o2 pd len (pos, wr)).1 - 48, tp_take pd len 48 57 (tp_o2 pd len (pos, wr))) := if_pos c170
                rw [show tp_cur pd len (tp_o2 pd len (pos, wr)).1 - 48 = (tp_o3 pd len (pos, wr)).1 from by rw [e3]]
                rw [show tp_take pd len 48 57 (tp_o2 pd len (pos, wr)) = (tp_o3 pd len (pos, wr)).2 from by rw [e3]] at hX2
                have hF := hF.tr hF2
                have hX := hX2
                clear hx h0 h1a h2a h3a h4a h5a h6 h7
                obtain ⟨hx, h0, h1a, h2a, h3a, h4a, h5a, h6, h7, -⟩ := id hX
                refine zz_goto (tgt := 188) C dX2_readOrder_181 (by decide) ?_
                first | refine zz_iast2 C rfl (by omega) (by omega) dX2_readOrder_188 ?_ | refine zz_iast C (by first | assumption | exact zz_us | exact zz_lk1 (by assumption) (by assumption) | exact zz_lk3 (hd _ _ (by decide) (by decide) (by decide)) (by assumption) | exact zz_uf (by assumption) (by assumption) | exact zz_lk3 (zz_xi (by assumption) (by assumption)) (zz_lk1 (by assumption) (by assumption)) | exact zz_lk3 (hd _ _ (by decide) (by decide) (by decide)) (zz_lk3 (hd _ _ (by decide) (by decide) (by decide)) (by assumption)) | (simp only [zz_up]; simp_all; done)) rfl (by omega) (by omega) dX2_readOrder_188 ?_
                refine zz_gen (P := fun h' => tw_X D h' x ad _ _ _ _ _ _ _ _ _ _ _ _ ∧ tw_F x ad h h') ⟨hX.u7 _, hF.tr (tw_F.up 7 (by decide))⟩ (fun hz hP => ?_)
                obtain ⟨hX, hF⟩ := hP
                clear hx h0 h1a h2a h3a h4a h5a h6 h7
                obtain ⟨hx, h0, h1a, h2a, h3a, h4a, h5a, h6, h7, -⟩ := id hX
                first | refine zz_aload_n C dX2_readOrder_189 rfl ?_ | refine zz_aload_nN C dX2_readOrder_189 rfl ?_
                refine zz_get C rfl (by first | assumption | exact zz_us | exact zz_lk1 (by assumption) (by assumption) | exact zz_lk3 (hd _ _ (by decide) (by decide) (by decide)) (by assumption) | exact zz_uf (by assumption) (by assumption) | exact zz_lk3 (zz_xi (by assumption) (by assumption)) (zz_lk1 (by assumption) (by assumption)) | exact zz_lk3 (hd _ _ (by decide) (by decide) (by decide)) (zz_lk3 (hd _ _ (by decide) (by decide) (by decide)) (by assumption)) | (simp only [zz_up]; simp_all; done)) rfl in_X2 11 rfl q1241 (fun _ h => h) (by first | rfl | assumption) dX2_readOrder_190 ?_
                refine zz_iconst (v := nI 1) C dX2_readOrder_193 (by decide) ?_
                refine zz_joinI (pcJ := 214) (tp_oa pd len (pos, wr)) ?_ ?_
                · rintro z214 rfl
                  first | refine zz_iast2 C rfl (by omega) (by omega) dX2_readOrder_214 ?_ | refine zz_iast C (by first | assumption | exact zz_us | exact zz_lk1 (by assumption) (by assumption) | exact zz_lk3 (hd _ _ (by decide) (by decide) (by decide)) (by assumption) | exact zz_uf (by assumption) (by assumption) | exact zz_lk3 (zz_xi (by assumption) (by assumption)) (zz_lk1 (by assumption) (by assumption)) | exact zz_lk3 (hd _ _ (by decide) (by decide) (by decide)) (zz_lk3 (hd _ _ (by decide) (by decide) (by decide)) (by assumption)) | (simp only [zz_up]; simp_all; done)) rfl (by omega) (by omega) dX2_readOrder_214 ?_
                  refine zz_gen (P := fun h' => tw_X D h' x ad _ _ _ _ _ _ _ _ _ _ _ _ ∧ tw_F x ad h h') ⟨hX.u7 _, hF.tr (tw_F.up 7 (by decide))⟩ (fun hz hP => ?_)
                  obtain ⟨hX, hF⟩ := hP
                  clear hx h0 h1a h2a h3a h4a h5a h6 h7
                  obtain ⟨hx, h0, h1a, h2a, h3a, h4a, h5a, h6, h7, -⟩ := id hX
                  refine zz_iload_n C dX2_readOrder_215 rfl ?_
                  refine zz_bipush (v := 113) C dX2_readOrder_216 (by decide) ?_
                  refine zz_icmp_eq (tgt := 227) C dX2_readOrder_218 (by decide) (fun c218 => ?_) (fun c218 => ?_)
                  · first | refine zz_aload_n C dX2_readOrder_227 rfl ?_ | refine zz_aload_nN C dX2_readOrder_227 rfl ?_
                    refine zz_get C rfl (by first | assumption | exact zz_us | exact zz_lk1 (by assumption) (by assumption) | exact zz_lk3 (hd _ _ (by decide) (by decide) (by decide)) (by assumption) | exact zz_uf (by assumption) (by assumption) | exact zz_lk3 (zz_xi (by assumption) (by assumption)) (zz_lk1 (by assumption) (by assumption)) | exact zz_lk3 (hd _ _ (by decide) (by decide) (by decide)) (zz_lk3 (hd _ _ (by decide) (by decide) (by decide)) (by assumption)) | (simp only [zz_up]; simp_all; done)) rfl in_X2 11 rfl q1241 (fun _ h => h) (by first | rfl | assumption) dX2_readOrder_228 ?_
                    refine zz_iconst (v := nI 2) C dX2_readOrder_231 (by decide) ?_
                    first | refine zz_aload_n C dX2_readOrder_232 rfl ?_ | refine zz_aload_nN C dX2_readOrder_232 rfl ?_
                    refine zz_bipush (v := 120) C dX2_readOrder_233 (by decide) ?_
                    refine zz_callV C zy_X2_takesBehind (ct_X2_takesBehind hlen (by first | exact tp_o2_le hpos | exact tp_o3_le hpos | exact tp_beh_le (tp_o3_le hpos) (by decide) | exact tp_beh_le (tp_beh_le (tp_o3_le hpos) (by decide)) (by decide) | exact tp_take_le (tp_o3_le hpos) (by decide) | exact tp_take_le (tp_take_le (tp_o3_le hpos) (by decide)) (by decide)) (by decide) hX) rfl q1575 (by first | assumption | exact zz_us | exact zz_lk1 (by assumption) (by assumption) | exact zz_lk3 (hd _ _ (by decide) (by decide) (by decide)) (by assumption) | exact zz_uf (by assumption) (by assumption) | exact zz_lk3 (zz_xi (by assumption) (by assumption)) (zz_lk1 (by assumption) (by assumption)) | exact zz_lk3 (hd _ _ (by decide) (by decide) (by decide)) (zz_lk3 (hd _ _ (by decide) (by decide) (by decide)) (by assumption)) | (simp only [zz_up]; simp_all; done)) rfl rfl rfl rfl rfl rfl dX2_readOrder_235 ⟨Nat.le_of_ble_eq_true rfl, Nat.le_of_ble_eq_true rfl⟩ (fun v hz hp => ?_)
                    obtain ⟨rfl, hX2, hF2⟩ := hp
                    have hF := hF.tr hF2
                    have hX := hX2
                    clear hx h0 h1a h2a h3a h4a h5a h6 h7
                    obtain ⟨hx, h0, h1a, h2a, h3a, h4a, h5a, h6, h7, -⟩ := id hX
                    first | refine zz_iast2 C rfl (by omega) (by omega) dX2_readOrder_238 ?_ | refine zz_iast C (by first | assumption | exact zz_us | exact zz_lk1 (by assumption) (by assumption) | exact zz_lk3 (hd _ _ (by decide) (by decide) (by decide)) (by assumption) | exact zz_uf (by assumption) (by assumption) | exact zz_lk3 (zz_xi (by assumption) (by assumption)) (zz_lk1 (by assumption) (by assumption)) | exact zz_lk3 (hd _ _ (by decide) (by decide) (by decide)) (zz_lk3 (hd _ _ (by decide) (by decide) (by decide)) (by assumption)) | (simp only [zz_up]; simp_all; done)) rfl (by omega) (by omega) dX2_readOrder_238 ?_
                    refine zz_gen (P := fun h' => tw_X D h' x ad _ _ _ _ _ _ _ _ _ _ _ _ ∧ tw_F x ad h h') ⟨hX.u7 _, hF.tr (tw_F.up 7 (by decide))⟩ (fun hz hP => ?_)
                    obtain ⟨hX, hF⟩ := hP
                    clear hx h0 h1a h2a h3a h4a h5a h6 h7
                    obtain ⟨hx, h0, h1a, h2a, h3a, h4a, h5a, h6, h7, -⟩ := id hX
                    first | refine zz_aload_n C dX2_readOrder_239 rfl ?_ | refine zz_aload_nN C dX2_readOrder_239 rfl ?_
                    refine zz_get C rfl (by first | assumption | exact zz_us | exact zz_lk1 (by assumption) (by assumption) | exact zz_lk3 (hd _ _ (by decide) (by decide) (by decide)) (by assumption) | exact zz_uf (by assumption) (by assumption) | exact zz_lk3 (zz_xi (by assumption) (by assumption)) (zz_lk1 (by assumption) (by assumption)) | exact zz_lk3 (hd _ _ (by decide) (by decide) (by decide)) (zz_lk3 (hd _ _ (by decide) (by decide) (by decide)) (by assumption)) | (simp only [zz_up]; simp_all; done)) rfl in_X2 11 rfl q1241 (fun _ h => h) (by first | rfl | assumption) dX2_readOrder_240 ?_
                    refine zz_iconst (v := nI 3) C dX2_readOrder_243 (by decide) ?_
                    first | refine zz_aload_n C dX2_readOrder_244 rfl ?_ | refine zz_aload_nN C dX2_readOrder_244 rfl ?_
                    refine zz_bipush (v := 120) C dX2_readOrder_245 (by decide) ?_
                    refine zz_callV C zy_X2_takesBehind (ct_X2_takesBehind hlen (by first | exact tp_o2_le hpos | exact tp_o3_le hpos | exact tp_beh_le (tp_o3_le hpos) (by decide) | exact tp_beh_le (tp_beh_le (tp_o3_le hpos) (by decide)) (by decide) | exact tp_take_le (tp_o3_le hpos) (by decide) | exact tp_take_le (tp_take_le (tp_o3_le hpos) (by decide)) (by decide)) (by decide) hX) rfl q1575 (by first | assumption | exact zz_us | exact zz_lk1 (by assumption) (by assumption) | exact zz_lk3 (hd _ _ (by decide) (by decide) (by decide)) (by assumption) | exact zz_uf (by assumption) (by assumption) | exact zz_lk3 (zz_xi (by assumption) (by assumption)) (zz_lk1 (by assumption) (by assumption)) | exact zz_lk3 (hd _ _ (by decide) (by decide) (by decide)) (zz_lk3 (hd _ _ (by decide) (by decide) (by decide)) (by assumption)) | (simp only [zz_up]; simp_all; done)) rfl rfl rfl rfl rfl rfl dX2_readOrder_247 ⟨Nat.le_of_ble_eq_true rfl, Nat.le_of_ble_eq_true rfl⟩ (fun v hz hp => ?_)
                    obtain ⟨rfl, hX2, hF2⟩ := hp
                    have hF := hF.tr hF2
                    have hX := hX2
                    clear hx h0 h1a h2a h3a h4a h5a h6 h7
                    obtain ⟨hx, h0, h1a, h2a, h3a, h4a, h5a, h6, h7, -⟩ := id hX
                    first | refine zz_iast2 C rfl (by omega) (by omega) dX2_readOrder_250 ?_ | refine zz_iast C (by first | assumption | exact zz_us | exact zz_lk1 (by assumption) (by assumption) | exact zz_lk3 (hd _ _ (by decide) (by decide) (by decide)) (by assumption) | exact zz_uf (by assumption) (by assumption) | exact zz_lk3 (zz_xi (by assumption) (by assumption)) (zz_lk1 (by assumption) (by assumption)) | exact zz_lk3 (hd _ _ (by decide) (by decide) (by decide)) (zz_lk3 (hd _ _ (by decide) (by decide) (by decide)) (by assumption)) | (simp only [zz_up]; simp_all; done)) rfl (by omega) (by omega) dX2_readOrder_250 ?_
                    refine zz_gen (P := fun h' => tw_X D h' x ad _ _ _ _ _ _ _ _ _ _ _ _ ∧ tw_F x ad h h') ⟨hX.u7 _, hF.tr (tw_F.up 7 (by decide))⟩ (fun hz hP => ?_)
                    obtain ⟨hX, hF⟩ := hP
                    clear hx h0 h1a h2a h3a h4a h5a h6 h7
                    obtain ⟨hx, h0, h1a, h2a, h3a, h4a, h5a, h6, h7, -⟩ := id hX
                    first | refine zz_aload_n C dX2_readOrder_251 rfl ?_ | refine zz_aload_nN C dX2_readOrder_251 rfl ?_
                    refine zz_get C rfl (by first | assumption | exact zz_us | exact zz_lk1 (by assumption) (by assumption) | exact zz_lk3 (hd _ _ (by decide) (by decide) (by decide)) (by assumption) | exact zz_uf (by assumption) (by assumption) | exact zz_lk3 (zz_xi (by assumption) (by assumption)) (zz_lk1 (by assumption) (by assumption)) | exact zz_lk3 (hd _ _ (by decide) (by decide) (by decide)) (zz_lk3 (hd _ _ (by decide) (by decide) (by decide)) (by assumption)) | (simp only [zz_up]; simp_all; done)) rfl in_X2 11 rfl q1241 (fun _ h => h) (by first | rfl | assumption) dX2_readOrder_252 ?_
                    refine zz_iconst (v := nI 4) C dX2_readOrder_255 (by decide) ?_
                    refine zz_iload_n C dX2_readOrder_256 rfl ?_
                    refine zz_bipush (v := 113) C dX2_readOrder_257 (by decide) ?_
                    refine zz_icmp_ne (tgt := 271) C dX2_readOrder_259 (by decide) (fun c259 => ?_) (fun c259 => ?_)
                    · refine zz_iconst (v := 0) C dX2_readOrder_271 (by decide) ?_
                      first | refine zz_iast2 C rfl (by omega) (by omega) dX2_readOrder_272 ?_ | refine zz_iast C (by first | assumption | exact zz_us | exact zz_lk1 (by assumption) (by assumption) | exact zz_lk3 (hd _ _ (by decide) (by decide) (by decide)) (by assumption) | exact zz_uf (by assumption) (by assumption) | exact zz_lk3 (zz_xi (by assumption) (by assumption)) (zz_lk1 (by assumption) (by assumption)) | exact zz_lk3 (hd _ _ (by decide) (by decide) (by decide)) (zz_lk3 (hd _ _ (by decide) (by decide) (by decide)) (by assumption)) | (simp only [zz_up]; simp_all; done)) rfl (by omega) (by omega) dX2_readOrder_272 ?_
                      refine zz_gen (P := fun h' => tw_X D h' x ad _ _ _ _ _ _ _ _ _ _ _ _ ∧ tw_F x ad h h') ⟨hX.u7 _, hF.tr (tw_F.up 7 (by decide))⟩ (fun hz hP => ?_)
                      obtain ⟨hX, hF⟩ := hP
                      clear hx h0 h1a h2a h3a h4a h5a h6 h7
                      obtain ⟨hx, h0, h1a, h2a, h3a, h4a, h5a, h6, h7, -⟩ := id hX
                      refine zz_goto (tgt := 362) C dX2_readOrder_273 (by decide) ?_
                      refine zz_vret C dX2_readOrder_362 rfl rfl ?_
                      first
                      | exact absurd c259 (by rw [c224]; decide)
                      | exact absurd c218 c259
                      | exact absurd c300 c341
                      | exact absurd c341 (by rw [c306]; decide)
                      | (refine ⟨rfl, ?_, hF⟩
                         first
                         | (rw [show tp_ord pd len to (pos, wr) = _ from if_pos c218]; exact hX)
                         | (rw [show tp_ord pd len to (pos, wr) = _ from (if_neg c218).trans (if_pos c224)]; exact hX)
                         | (rw [show tp_ord pd len to (pos, wr) = _ from (if_neg c218).trans ((if_neg c224).trans (if_pos c279))]; exact hX)
                         | (rw [show tp_ord pd len to (pos, wr) = _ from (if_neg c218).trans ((if_neg c224).trans ((if_neg c279).trans (if_pos c300)))]; exact hX)
                         | (rw [show tp_ord pd len to (pos, wr) = _ from (if_neg c218).trans ((if_neg c224).trans ((if_neg c279).trans ((if_neg c300).trans (if_pos c306))))]; exact hX)
                         | (rw [show tp_ord pd len to (pos, wr) = _ from (if_neg c218).trans ((if_neg c224).trans ((if_neg c279).trans ((if_neg c300).trans (if_neg c306))))]; exact hX))
                    · first | refine zz_aload_n C dX2_readOrder_262 rfl ?_ | refine zz_aload_nN C dX2_readOrder_262 rfl ?_
                      refine zz_bipush (v := 42) C dX2_readOrder_263 (by decide) ?_
                      refine zz_callV C zy_X2_takesBehind (ct_X2_takesBehind hlen (by first | exact tp_o2_le hpos | exact tp_o3_le hpos | exact tp_beh_le (tp_o3_le hpos) (by decide) | exact tp_beh_le (tp_beh_le (tp_o3_le hpos) (by decide)) (by decide) | exact tp_take_le (tp_o3_le hpos) (by decide) | exact tp_take_le (tp_take_le (tp_o3_le hpos) (by decide)) (by decide)) (by decide) hX) rfl q1575 (by first | assumption | exact zz_us | exact zz_lk1 (by assumption) (by assumption) | exact zz_lk3 (hd _ _ (by decide) (by decide) (by decide)) (by assumption) | exact zz_uf (by assumption) (by assumption) | exact zz_lk3 (zz_xi (by assumption) (by assumption)) (zz_lk1 (by assumption) (by assumption)) | exact zz_lk3 (hd _ _ (by decide) (by decide) (by decide)) (zz_lk3 (hd _ _ (by decide) (by decide) (by decide)) (by assumption)) | (simp only [zz_up]; simp_all; done)) rfl rfl rfl rfl rfl rfl dX2_readOrder_265 ⟨Nat.le_of_ble_eq_true rfl, Nat.le_of_ble_eq_true rfl⟩ (fun v hz hp => ?_)
                      obtain ⟨rfl, hX2, hF2⟩ := hp
                      have hF := hF.tr hF2
                      have hX := hX2
                      clear hx h0 h1a h2a h3a h4a h5a h6 h7
                      obtain ⟨hx, h0, h1a, h2a, h3a, h4a, h5a, h6, h7, -⟩ := id hX
                      refine zz_goto (tgt := 272) C dX2_readOrder_268 (by decide) ?_
                      first | refine zz_iast2 C rfl (by omega) (by omega) dX2_readOrder_272 ?_ | refine zz_iast C (by first | assumption | exact zz_us | exact zz_lk1 (by assumption) (by assumption) | exact zz_lk3 (hd _ _ (by decide) (by decide) (by decide)) (by assumption) | exact zz_uf (by assumption) (by assumption) | exact zz_lk3 (zz_xi (by assumption) (by assumption)) (zz_lk1 (by assumption) (by assumption)) | exact zz_lk3 (hd _ _ (by decide) (by decide) (by decide)) (zz_lk3 (hd _ _ (by decide) (by decide) (by decide)) (by assumption)) | (simp only [zz_up]; simp_all; done)) rfl (by omega) (by omega) dX2_readOrder_272 ?_
                      refine zz_gen (P := fun h' => tw_X D h' x ad _ _ _ _ _ _ _ _ _ _ _ _ ∧ tw_F x ad h h') ⟨hX.u7 _, hF.tr (tw_F.up 7 (by decide))⟩ (fun hz hP => ?_)
                      obtain ⟨hX, hF⟩ := hP
                      clear hx h0 h1a h2a h3a h4a h5a h6 h7
                      obtain ⟨hx, h0, h1a, h2a, h3a, h4a, h5a, h6, h7, -⟩ := id hX
                      refine zz_goto (tgt := 362) C dX2_readOrder_273 (by decide) ?_
                      refine zz_vret C dX2_readOrder_362 rfl rfl ?_
                      first
                      | exact absurd c259 (by rw [c224]; decide)
                      | exact absurd c218 c259
                      | exact absurd c300 c341
                      | exact absurd c341 (by rw [c306]; decide)
                      | (refine ⟨rfl, ?_, hF⟩
                         first
                         | (rw [show tp_ord pd len to (pos, wr) = _ from if_pos c218]; exact hX)
                         | (rw [show tp_ord pd len to (pos, wr) = _ from (if_neg c218).trans (if_pos c224)]; exact hX)
                         | (rw [show tp_ord pd len to (pos, wr) = _ from (if_neg c218).trans ((if_neg c224).trans (if_pos c279))]; exact hX)
                         | (rw [show tp_ord pd len to (pos, wr) = _ from (if_neg c218).trans ((if_neg c224).trans ((if_neg c279).trans (if_pos c300)))]; exact hX)
                         | (rw [show tp_ord pd len to (pos, wr) = _ from (if_neg c218).trans ((if_neg c224).trans ((if_neg c279).trans ((if_neg c300).trans (if_pos c306))))]; exact hX)
                         | (rw [show tp_ord pd len to (pos, wr) = _ from (if_neg c218).trans ((if_neg c224).trans ((if_neg c279).trans ((if_neg c300).trans (if_neg c306))))]; exact hX))
                  · refine zz_iload_n C dX2_readOrder_221 rfl ?_
                    refine zz_bipush (v := 111) C dX2_readOrder_222 (by decide) ?_
                    refine zz_icmp_ne (tgt := 276) C dX2_readOrder_224 (by decide) (fun c224 => ?_) (fun c224 => ?_)
                    · refine zz_iload_n C dX2_readOrder_276 rfl ?_
                      refine zz_bipush (v := 103) C dX2_readOrder_277 (by decide) ?_
                      refine zz_icmp_ne (tgt := 297) C dX2_readOrder_279 (by decide) (fun c279 => ?_) (fun c279 => ?_)
                      · refine zz_iload_n C dX2_readOrder_297 rfl ?_
                        refine zz_bipush (v := 99) C dX2_readOrder_298 (by decide) ?_
                        refine zz_icmp_eq (tgt := 309) C dX2_readOrder_300 (by decide) (fun c300 => ?_) (fun c300 => ?_)
                        · first | refine zz_aload_n C dX2_readOrder_309 rfl ?_ | refine zz_aload_nN C dX2_readOrder_309 rfl ?_
                          refine zz_bipush (v := 46) C dX2_readOrder_310 (by decide) ?_
                          refine zz_bipush (v := 46) C dX2_readOrder_312 (by decide) ?_
                          refine zz_callV C zy_X2_takes (ct_X2_takes hlen (by first | exact tp_o2_le hpos | exact tp_o3_le hpos | exact tp_beh_le (tp_o3_le hpos) (by decide) | exact tp_beh_le (tp_beh_le (tp_o3_le hpos) (by decide)) (by decide) | exact tp_take_le (tp_o3_le hpos) (by decide) | exact tp_take_le (tp_take_le (tp_o3_le hpos) (by decide)) (by decide)) hX) rfl q1567 (by first | assumption | exact zz_us | exact zz_lk1 (by assumption) (by assumption) | exact zz_lk3 (hd _ _ (by decide) (by decide) (by decide)) (by assumption) | exact zz_uf (by assumption) (by assumption) | exact zz_lk3 (zz_xi (by assumption) (by assumption)) (zz_lk1 (by assumption) (by assumption)) | exact zz_lk3 (hd _ _ (by decide) (by decide) (by decide)) (zz_lk3 (hd _ _ (by decide) (by decide) (by decide)) (by assumption)) | (simp only [zz_up]; simp_all; done)) rfl rfl rfl rfl rfl rfl dX2_readOrder_314 ⟨Nat.le_of_ble_eq_true rfl, Nat.le_of_ble_eq_true rfl⟩ (fun v hz hp => ?_)
                          obtain ⟨rfl, hX2, hF2⟩ := hp
                          have hF := hF.tr hF2
                          have hX := hX2
                          clear hx h0 h1a h2a h3a h4a h5a h6 h7
                          obtain ⟨hx, h0, h1a, h2a, h3a, h4a, h5a, h6, h7, -⟩ := id hX
                          refine zz_istore C dX2_readOrder_317 (by decide) ?_
                          first | refine zz_aload_n C dX2_readOrder_319 rfl ?_ | refine zz_aload_nN C dX2_readOrder_319 rfl ?_
                          refine zz_get C rfl (by first | assumption | exact zz_us | exact zz_lk1 (by assumption) (by assumption) | exact zz_lk3 (hd _ _ (by decide) (by decide) (by decide)) (by assumption) | exact zz_uf (by assumption) (by assumption) | exact zz_lk3 (zz_xi (by assumption) (by assumption)) (zz_lk1 (by assumption) (by assumption)) | exact zz_lk3 (hd _ _ (by decide) (by decide) (by decide)) (zz_lk3 (hd _ _ (by decide) (by decide) (by decide)) (by assumption)) | (simp only [zz_up]; simp_all; done)) rfl in_X2 11 rfl q1241 (fun _ h => h) (by first | rfl | assumption) dX2_readOrder_320 ?_
                          refine zz_iconst (v := nI 2) C dX2_readOrder_323 (by decide) ?_
                          first | refine zz_aload_n C dX2_readOrder_324 rfl ?_ | refine zz_aload_nN C dX2_readOrder_324 rfl ?_
                          refine zz_bipush (v := 48) C dX2_readOrder_325 (by decide) ?_
                          refine zz_bipush (v := 57) C dX2_readOrder_327 (by decide) ?_
                          refine zz_callV C zy_X2_takes (ct_X2_takes hlen (by first | exact tp_o2_le hpos | exact tp_o3_le hpos | exact tp_beh_le (tp_o3_le hpos) (by decide) | exact tp_beh_le (tp_beh_le (tp_o3_le hpos) (by decide)) (by decide) | exact tp_take_le (tp_o3_le hpos) (by decide) | exact tp_take_le (tp_take_le (tp_o3_le hpos) (by decide)) (by decide)) hX) rfl q1567 (by first | assumption | exact zz_us | exact zz_lk1 (by assumption) (by assumption) | exact zz_lk3 (hd _ _ (by decide) (by decide) (by decide)) (by assumption) | exact zz_uf (by assumption) (by assumption) | exact zz_lk3 (zz_xi (by assumption) (by assumption)) (zz_lk1 (by assumption) (by assumption)) | exact zz_lk3 (hd _ _ (by decide) (by decide) (by decide)) (zz_lk3 (hd _ _ (by decide) (by decide) (by decide)) (by assumption)) | (simp only [zz_up]; simp_all; done)) rfl rfl rfl rfl rfl rfl dX2_readOrder_329 ⟨Nat.le_of_ble_eq_true rfl, Nat.le_of_ble_eq_true rfl⟩ (fun v hz hp => ?_)
                          obtain ⟨rfl, hX2, hF2⟩ := hp
                          have hF := hF.tr hF2
                          have hX := hX2
                          clear hx h0 h1a h2a h3a h4a h5a h6 h7
                          obtain ⟨hx, h0, h1a, h2a, h3a, h4a, h5a, h6, h7, -⟩ := id hX
                          first | refine zz_iast2 C rfl (by omega) (by omega) dX2_readOrder_332 ?_ | refine zz_iast C (by first | assumption | exact zz_us | exact zz_lk1 (by assumption) (by assumption) | exact zz_lk3 (hd _ _ (by decide) (by decide) (by decide)) (by assumption) | exact zz_uf (by assumption) (by assumption) | exact zz_lk3 (zz_xi (by assumption) (by assumption)) (zz_lk1 (by assumption) (by assumption)) | exact zz_lk3 (hd _ _ (by decide) (by decide) (by decide)) (zz_lk3 (hd _ _ (by decide) (by decide) (by decide)) (by assumption)) | (simp only [zz_up]; simp_all; done)) rfl (by omega) (by omega) dX2_readOrder_332 ?_
                          refine zz_gen (P := fun h' => tw_X D h' x ad _ _ _ _ _ _ _ _ _ _ _ _ ∧ tw_F x ad h h') ⟨hX.u7 _, hF.tr (tw_F.up 7 (by decide))⟩ (fun hz hP => ?_)
                          obtain ⟨hX, hF⟩ := hP
                          clear hx h0 h1a h2a h3a h4a h5a h6 h7
                          obtain ⟨hx, h0, h1a, h2a, h3a, h4a, h5a, h6, h7, -⟩ := id hX
                          first | refine zz_aload_n C dX2_readOrder_333 rfl ?_ | refine zz_aload_nN C dX2_readOrder_333 rfl ?_
                          refine zz_get C rfl (by first | assumption | exact zz_us | exact zz_lk1 (by assumption) (by assumption) | exact zz_lk3 (hd _ _ (by decide) (by decide) (by decide)) (by assumption) | exact zz_uf (by assumption) (by assumption) | exact zz_lk3 (zz_xi (by assumption) (by assumption)) (zz_lk1 (by assumption) (by assumption)) | exact zz_lk3 (hd _ _ (by decide) (by decide) (by decide)) (zz_lk3 (hd _ _ (by decide) (by decide) (by decide)) (by assumption)) | (simp only [zz_up]; simp_all; done)) rfl in_X2 11 rfl q1241 (fun _ h => h) (by first | rfl | assumption) dX2_readOrder_334 ?_
                          refine zz_iconst (v := nI 3) C dX2_readOrder_337 (by decide) ?_
                          refine zz_iload_n C dX2_readOrder_338 rfl ?_
                          refine zz_bipush (v := 99) C dX2_readOrder_339 (by decide) ?_
                          refine zz_icmp_ne (tgt := 353) C dX2_readOrder_341 (by decide) (fun c341 => ?_) (fun c341 => ?_)
                          · first | refine zz_aload_n C dX2_readOrder_353 rfl ?_ | refine zz_aload_nN C dX2_readOrder_353 rfl ?_
                            refine zz_bipush (v := 48) C dX2_readOrder_354 (by decide) ?_
                            refine zz_bipush (v := 57) C dX2_readOrder_356 (by decide) ?_
                            refine zz_callV C zy_X2_takes (ct_X2_takes hlen (by first | exact tp_o2_le hpos | exact tp_o3_le hpos | exact tp_beh_le (tp_o3_le hpos) (by decide) | exact tp_beh_le (tp_beh_le (tp_o3_le hpos) (by decide)) (by decide) | exact tp_take_le (tp_o3_le hpos) (by decide) | exact tp_take_le (tp_take_le (tp_o3_le hpos) (by decide)) (by decide)) hX) rfl q1567 (by first | assumption | exact zz_us | exact zz_lk1 (by assumption) (by assumption) | exact zz_lk3 (hd _ _ (by decide) (by decide) (by decide)) (by assumption) | exact zz_uf (by assumption) (by assumption) | exact zz_lk3 (zz_xi (by assumption) (by assumption)) (zz_lk1 (by assumption) (by assumption)) | exact zz_lk3 (hd _ _ (by decide) (by decide) (by decide)) (zz_lk3 (hd _ _ (by decide) (by decide) (by decide)) (by assumption)) | (simp only [zz_up]; simp_all; done)) rfl rfl rfl rfl rfl rfl dX2_readOrder_358 ⟨Nat.le_of_ble_eq_true rfl, Nat.le_of_ble_eq_true rfl⟩ (fun v hz hp => ?_)
                            obtain ⟨rfl, hX2, hF2⟩ := hp
                            have hF := hF.tr hF2
                            have hX := hX2
                            clear hx h0 h1a h2a h3a h4a h5a h6 h7
                            obtain ⟨hx, h0, h1a, h2a, h3a, h4a, h5a, h6, h7, -⟩ := id hX
                            first | refine zz_iast2 C rfl (by omega) (by omega) dX2_readOrder_361 ?_ | refine zz_iast C (by first | assumption | exact zz_us | exact zz_lk1 (by assumption) (by assumption) | exact zz_lk3 (hd _ _ (by decide) (by decide) (by decide)) (by assumption) | exact zz_uf (by assumption) (by assumption) | exact zz_lk3 (zz_xi (by assumption) (by assumption)) (zz_lk1 (by assumption) (by assumption)) | exact zz_lk3 (hd _ _ (by decide) (by decide) (by decide)) (zz_lk3 (hd _ _ (by decide) (by decide) (by decide)) (by assumption)) | (simp only [zz_up]; simp_all; done)) rfl (by omega) (by omega) dX2_readOrder_361 ?_
                            refine zz_gen (P := fun h' => tw_X D h' x ad _ _ _ _ _ _ _ _ _ _ _ _ ∧ tw_F x ad h h') ⟨hX.u7 _, hF.tr (tw_F.up 7 (by decide))⟩ (fun hz hP => ?_)
                            obtain ⟨hX, hF⟩ := hP
                            clear hx h0 h1a h2a h3a h4a h5a h6 h7
                            obtain ⟨hx, h0, h1a, h2a, h3a, h4a, h5a, h6, h7, -⟩ := id hX
                            refine zz_vret C dX2_readOrder_362 rfl rfl ?_
                            first
                            | exact absurd c259 (by rw [c224]; decide)
                            | exact absurd c218 c259
                            | exact absurd c300 c341
                            | exact absurd c341 (by rw [c306]; decide)
                            | (refine ⟨rfl, ?_, hF⟩
                               first
                               | (rw [show tp_ord pd len to (pos, wr) = _ from if_pos c218]; exact hX)
                               | (rw [show tp_ord pd len to (pos, wr) = _ from (if_neg c218).trans (if_pos c224)]; exact hX)
                               | (rw [show tp_ord pd len to (pos, wr) = _ from (if_neg c218).trans ((if_neg c224).trans (if_pos c279))]; exact hX)
                               | (rw [show tp_ord pd len to (pos, wr) = _ from (if_neg c218).trans ((if_neg c224).trans ((if_neg c279).trans (if_pos c300)))]; exact hX)
                               | (rw [show tp_ord pd len to (pos, wr) = _ from (if_neg c218).trans ((if_neg c224).trans ((if_neg c279).trans ((if_neg c300).trans (if_pos c306))))]; exact hX)
                               | (rw [show tp_ord pd len to (pos, wr) = _ from (if_neg c218).trans ((if_neg c224).trans ((if_neg c279).trans ((if_neg c300).trans (if_neg c306))))]; exact hX))
                          · first | refine zz_aload_n C dX2_readOrder_344 rfl ?_ | refine zz_aload_nN C dX2_readOrder_344 rfl ?_
                            refine zz_bipush (v := 64) C dX2_readOrder_345 (by decide) ?_
                            refine zz_callV C zy_X2_takesBehind (ct_X2_takesBehind hlen (by first | exact tp_o2_le hpos | exact tp_o3_le hpos | exact tp_beh_le (tp_o3_le hpos) (by decide) | exact tp_beh_le (tp_beh_le (tp_o3_le hpos) (by decide)) (by decide) | exact tp_take_le (tp_o3_le hpos) (by decide) | exact tp_take_le (tp_take_le (tp_o3_le hpos) (by decide)) (by decide)) (by decide) hX) rfl q1575 (by first | assumption | exact zz_us | exact zz_lk1 (by assumption) (by assumption) | exact zz_lk3 (hd _ _ (by decide) (by decide) (by decide)) (by assumption) | exact zz_uf (by assumption) (by assumption) | exact zz_lk3 (zz_xi (by assumption) (by assumption)) (zz_lk1 (by assumption) (by assumption)) | exact zz_lk3 (hd _ _ (by decide) (by decide) (by decide)) (zz_lk3 (hd _ _ (by decide) (by decide) (by decide)) (by assumption)) | (simp only [zz_up]; simp_all; done)) rfl rfl rfl rfl rfl rfl dX2_readOrder_347 ⟨Nat.le_of_ble_eq_true rfl, Nat.le_of_ble_eq_true rfl⟩ (fun v hz hp => ?_)
                            obtain ⟨rfl, hX2, hF2⟩ := hp
                            have hF := hF.tr hF2
                            have hX := hX2
                            clear hx h0 h1a h2a h3a h4a h5a h6 h7
                            obtain ⟨hx, h0, h1a, h2a, h3a, h4a, h5a, h6, h7, -⟩ := id hX
                            refine zz_goto (tgt := 361) C dX2_readOrder_350 (by decide) ?_
                            first | refine zz_iast2 C rfl (by omega) (by omega) dX2_readOrder_361 ?_ | refine zz_iast C (by first | assumption | exact zz_us | exact zz_lk1 (by assumption) (by assumption) | exact zz_lk3 (hd _ _ (by decide) (by decide) (by decide)) (by assumption) | exact zz_uf (by assumption) (by assumption) | exact zz_lk3 (zz_xi (by assumption) (by assumption)) (zz_lk1 (by assumption) (by assumption)) | exact zz_lk3 (hd _ _ (by decide) (by decide) (by decide)) (zz_lk3 (hd _ _ (by decide) (by decide) (by decide)) (by assumption)) | (simp only [zz_up]; simp_all; done)) rfl (by omega) (by omega) dX2_readOrder_361 ?_
                            refine zz_gen (P := fun h' => tw_X D h' x ad _ _ _ _ _ _ _ _ _ _ _ _ ∧ tw_F x ad h h') ⟨hX.u7 _, hF.tr (tw_F.up 7 (by decide))⟩ (fun hz hP => ?_)
                            obtain ⟨hX, hF⟩ := hP
                            clear hx h0 h1a h2a h3a h4a h5a h6 h7
                            obtain ⟨hx, h0, h1a, h2a, h3a, h4a, h5a, h6, h7, -⟩ := id hX
                            refine zz_vret C dX2_readOrder_362 rfl rfl ?_
                            first
                            | exact absurd c259 (by rw [c224]; decide)
                            | exact absurd c218 c259
                            | exact absurd c300 c341
                            | exact absurd c341 (by rw [c306]; decide)
                            | (refine ⟨rfl, ?_, hF⟩
                               first
                               | (rw [show tp_ord pd len to (pos, wr) = _ from if_pos c218]; exact hX)
                               | (rw [show tp_ord pd len to (pos, wr) = _ from (if_neg c218).trans (if_pos c224)]; exact hX)
                               | (rw [show tp_ord pd len to (pos, wr) = _ from (if_neg c218).trans ((if_neg c224).trans (if_pos c279))]; exact hX)
                               | (rw [show tp_ord pd len to (pos, wr) = _ from (if_neg c218).trans ((if_neg c224).trans ((if_neg c279).trans (if_pos c300)))]; exact hX)
                               | (rw [show tp_ord pd len to (pos, wr) = _ from (if_neg c218).trans ((if_neg c224).trans ((if_neg c279).trans ((if_neg c300).trans (if_pos c306))))]; exact hX)
                               | (rw [show tp_ord pd len to (pos, wr) = _ from (if_neg c218).trans ((if_neg c224).trans ((if_neg c279).trans ((if_neg c300).trans (if_neg c306))))]; exact hX))
                        · refine zz_iload_n C dX2_readOrder_303 rfl ?_
                          refine zz_bipush (v := 108) C dX2_readOrder_304 (by decide) ?_
                          refine zz_icmp_ne (tgt := 362) C dX2_readOrder_306 (by decide) (fun c306 => ?_) (fun c306 => ?_)
                          · refine zz_vret C dX2_readOrder_362 rfl rfl ?_
                            first
                            | exact absurd c259 (by rw [c224]; decide)
                            | exact absurd c218 c259
                            | exact absurd c300 c341
                            | exact absurd c341 (by rw [c306]; decide)
                            | (refine ⟨rfl, ?_, hF⟩
                               first
                               | (rw [show tp_ord pd len to (pos, wr) = _ from if_pos c218]; exact hX)
                               | (rw [show tp_ord pd len to (pos, wr) = _ from (if_neg c218).trans (if_pos c224)]; exact hX)
                               | (rw [show tp_ord pd len to (pos, wr) = _ from (if_neg c218).trans ((if_neg c224).trans (if_pos c279))]; exact hX)
                               | (rw [show tp_ord pd len to (pos, wr) = _ from (if_neg c218).trans ((if_neg c224).trans ((if_neg c279).trans (if_pos c300)))]; exact hX)
                               | (rw [show tp_ord pd len to (pos, wr) = _ from (if_neg c218).trans ((if_neg c224).trans ((if_neg c279).trans ((if_neg c300).trans (if_pos c306))))]; exact hX)
                               | (rw [show tp_ord pd len to (pos, wr) = _ from (if_neg c218).trans ((if_neg c224).trans ((if_neg c279).trans ((if_neg c300).trans (if_neg c306))))]; exact hX))
                          · first | refine zz_aload_n C dX2_readOrder_309 rfl ?_ | refine zz_aload_nN C dX2_readOrder_309 rfl ?_
                            refine zz_bipush (v := 46) C dX2_readOrder_310 (by decide) ?_
                            refine zz_bipush (v := 46) C dX2_readOrder_312 (by decide) ?_
                            refine zz_callV C zy_X2_takes (ct_X2_takes hlen (by first | exact tp_o2_le hpos | exact tp_o3_le hpos | exact tp_beh_le (tp_o3_le hpos) (by decide) | exact tp_beh_le (tp_beh_le (tp_o3_le hpos) (by decide)) (by decide) | exact tp_take_le (tp_o3_le hpos) (by decide) | exact tp_take_le (tp_take_le (tp_o3_le hpos) (by decide)) (by decide)) hX) rfl q1567 (by first | assumption | exact zz_us | exact zz_lk1 (by assumption) (by assumption) | exact zz_lk3 (hd _ _ (by decide) (by decide) (by decide)) (by assumption) | exact zz_uf (by assumption) (by assumption) | exact zz_lk3 (zz_xi (by assumption) (by assumption)) (zz_lk1 (by assumption) (by assumption)) | exact zz_lk3 (hd _ _ (by decide) (by decide) (by decide)) (zz_lk3 (hd _ _ (by decide) (by decide) (by decide)) (by assumption)) | (simp only [zz_up]; simp_all; done)) rfl rfl rfl rfl rfl rfl dX2_readOrder_314 ⟨Nat.le_of_ble_eq_true rfl, Nat.le_of_ble_eq_true rfl⟩ (fun v hz hp => ?_)
                            obtain ⟨rfl, hX2, hF2⟩ := hp
                            have hF := hF.tr hF2
                            have hX := hX2
                            clear hx h0 h1a h2a h3a h4a h5a h6 h7
                            obtain ⟨hx, h0, h1a, h2a, h3a, h4a, h5a, h6, h7, -⟩ := id hX
                            refine zz_istore C dX2_readOrder_317 (by decide) ?_
                            first | refine zz_aload_n C dX2_readOrder_319 rfl ?_ | refine zz_aload_nN C dX2_readOrder_319 rfl ?_
                            refine zz_get C rfl (by first | assumption | exact zz_us | exact zz_lk1 (by assumption) (by assumption) | exact zz_lk3 (hd _ _ (by decide) (by decide) (by decide)) (by assumption) | exact zz_uf (by assumption) (by assumption) | exact zz_lk3 (zz_xi (by assumption) (by assumption)) (zz_lk1 (by assumption) (by assumption)) | exact zz_lk3 (hd _ _ (by decide) (by decide) (by decide)) (zz_lk3 (hd _ _ (by decide) (by decide) (by decide)) (by assumption)) | (simp only [zz_up]; simp_all; done)) rfl in_X2 11 rfl q1241 (fun _ h => h) (by first | rfl | assumption) dX2_readOrder_320 ?_
                            refine zz_iconst (v := nI 2) C dX2_readOrder_323 (by decide) ?_
                            first | refine zz_aload_n C dX2_readOrder_324 rfl ?_ | refine zz_aload_nN C dX2_readOrder_324 rfl ?_
                            refine zz_bipush (v := 48) C dX2_readOrder_325 (by decide) ?_
                            refine zz_bipush (v := 57) C dX2_readOrder_327 (by decide) ?_
                            refine zz_callV C zy_X2_takes (ct_X2_takes hlen (by first | exact tp_o2_le hpos | exact tp_o3_le hpos | exact tp_beh_le (tp_o3_le hpos) (by decide) | exact tp_beh_le (tp_beh_le (tp_o3_le hpos) (by decide)) (by decide) | exact tp_take_le (tp_o3_le hpos) (by decide) | exact tp_take_le (tp_take_le (tp_o3_le hpos) (by decide)) (by decide)) hX) rfl q1567 (by first | assumption | exact zz_us | exact zz_lk1 (by assumption) (by assumption) | exact zz_lk3 (hd _ _ (by decide) (by decide) (by decide)) (by assumption) | exact zz_uf (by assumption) (by assumption) | exact zz_lk3 (zz_xi (by assumption) (by assumption)) (zz_lk1 (by assumption) (by assumption)) | exact zz_lk3 (hd _ _ (by decide) (by decide) (by decide)) (zz_lk3 (hd _ _ (by decide) (by decide) (by decide)) (by assumption)) | (simp only [zz_up]; simp_all; done)) rfl rfl rfl rfl rfl rfl dX2_readOrder_329 ⟨Nat.le_of_ble_eq_true rfl, Nat.le_of_ble_eq_true rfl⟩ (fun v hz hp => ?_)
                            obtain ⟨rfl, hX2, hF2⟩ := hp
                            have hF := hF.tr hF2
                            have hX := hX2
                            clear hx h0 h1a h2a h3a h4a h5a h6 h7
                            obtain ⟨hx, h0, h1a, h2a, h3a, h4a, h5a, h6, h7, -⟩ := id hX
                            first | refine zz_iast2 C rfl (by omega) (by omega) dX2_readOrder_332 ?_ | refine zz_iast C (by first | assumption | exact zz_us | exact zz_lk1 (by assumption) (by assumption) | exact zz_lk3 (hd _ _ (by decide) (by decide) (by decide)) (by assumption) | exact zz_uf (by assumption) (by assumption) | exact zz_lk3 (zz_xi (by assumption) (by assumption)) (zz_lk1 (by assumption) (by assumption)) | exact zz_lk3 (hd _ _ (by decide) (by decide) (by decide)) (zz_lk3 (hd _ _ (by decide) (by decide) (by decide)) (by assumption)) | (simp only [zz_up]; simp_all; done)) rfl (by omega) (by omega) dX2_readOrder_332 ?_
                            refine zz_gen (P := fun h' => tw_X D h' x ad _ _ _ _ _ _ _ _ _ _ _ _ ∧ tw_F x ad h h') ⟨hX.u7 _, hF.tr (tw_F.up 7 (by decide))⟩ (fun hz hP => ?_)
                            obtain ⟨hX, hF⟩ := hP
                            clear hx h0 h1a h2a h3a h4a h5a h6 h7
                            obtain ⟨hx, h0, h1a, h2a, h3a, h4a, h5a, h6, h7, -⟩ := id hX
                            first | refine zz_aload_n C dX2_readOrder_333 rfl ?_ | refine zz_aload_nN C dX2_readOrder_333 rfl ?_
                            refine zz_get C rfl (by first | assumption | exact zz_us | exact zz_lk1 (by assumption) (by assumption) | exact zz_lk3 (hd _ _ (by decide) (by decide) (by decide)) (by assumption) | exact zz_uf (by assumption) (by assumption) | exact zz_lk3 (zz_xi (by assumption) (by assumption)) (zz_lk1 (by assumption) (by assumption)) | exact zz_lk3 (hd _ _ (by decide) (by decide) (by decide)) (zz_lk3 (hd _ _ (by decide) (by decide) (by decide)) (by assumption)) | (simp only [zz_up]; simp_all; done)) rfl in_X2 11 rfl q1241 (fun _ h => h) (by first | rfl | assumption) dX2_readOrder_334 ?_
                            refine zz_iconst (v := nI 3) C dX2_readOrder_337 (by decide) ?_
                            refine zz_iload_n C dX2_readOrder_338 rfl ?_
                            refine zz_bipush (v := 99) C dX2_readOrder_339 (by decide) ?_
                            refine zz_icmp_ne (tgt := 353) C dX2_readOrder_341 (by decide) (fun c341 => ?_) (fun c341 => ?_)
                            · first | refine zz_aload_n C dX2_readOrder_353 rfl ?_ | refine zz_aload_nN C dX2_readOrder_353 rfl ?_
                              refine zz_bipush (v := 48) C dX2_readOrder_354 (by decide) ?_
                              refine zz_bipush (v := 57) C dX2_readOrder_356 (by decide) ?_
                              refine zz_callV C zy_X2_takes (ct_X2_takes hlen (by first | exact tp_o2_le hpos | exact tp_o3_le hpos | exact tp_beh_le (tp_o3_le hpos) (by decide) | exact tp_beh_le (tp_beh_le (tp_o3_le hpos) (by decide)) (by decide) | exact tp_take_le (tp_o3_le hpos) (by decide) | exact tp_take_le (tp_take_le (tp_o3_le hpos) (by decide)) (by decide)) hX) rfl q1567 (by first | assumption | exact zz_us | exact zz_lk1 (by assumption) (by assumption) | exact zz_lk3 (hd _ _ (by decide) (by decide) (by decide)) (by assumption) | exact zz_uf (by assumption) (by assumption) | exact zz_lk3 (zz_xi (by assumption) (by assumption)) (zz_lk1 (by assumption) (by assumption)) | exact zz_lk3 (hd _ _ (by decide) (by decide) (by decide)) (zz_lk3 (hd _ _ (by decide) (by decide) (by decide)) (by assumption)) | (simp only [zz_up]; simp_all; done)) rfl rfl rfl rfl rfl rfl dX2_readOrder_358 ⟨Nat.le_of_ble_eq_true rfl, Nat.le_of_ble_eq_true rfl⟩ (fun v hz hp => ?_)
                              obtain ⟨rfl, hX2, hF2⟩ := hp
                              have hF := hF.tr hF2
                              have hX := hX2
                              clear hx h0 h1a h2a h3a h4a h5a h6 h7
                              obtain ⟨hx, h0, h1a, h2a, h3a, h4a, h5a, h6, h7, -⟩ := id hX
                              first | refine zz_iast2 C rfl (by omega) (by omega) dX2_readOrder_361 ?_ | refine zz_iast C (by first | assumption | exact zz_us | exact zz_lk1 (by assumption) (by assumption) | exact zz_lk3 (hd _ _ (by decide) (by decide) (by decide)) (by assumption) | exact zz_uf (by assumption) (by assumption) | exact zz_lk3 (zz_xi (by assumption) (by assumption)) (zz_lk1 (by assumption) (by assumption)) | exact zz_lk3 (hd _ _ (by decide) (by decide) (by decide)) (zz_lk3 (hd _ _ (by decide) (by decide) (by decide)) (by assumption)) | (simp only [zz_up]; simp_all; done)) rfl (by omega) (by omega) dX2_readOrder_361 ?_
                              refine zz_gen (P := fun h' => tw_X D h' x ad _ _ _ _ _ _ _ _ _ _ _ _ ∧ tw_F x ad h h') ⟨hX.u7 _, hF.tr (tw_F.up 7 (by decide))⟩ (fun hz hP => ?_)
                              obtain ⟨hX, hF⟩ := hP
                              clear hx h0 h1a h2a h3a h4a h5a h6 h7
                              obtain ⟨hx, h0, h1a, h2a, h3a, h4a, h5a, h6, h7, -⟩ := id hX
                              refine zz_vret C dX2_readOrder_362 rfl rfl ?_
                              first
                              | exact absurd c259 (by rw [c224]; decide)
                              | exact absurd c218 c259
                              | exact absurd c300 c341
                              | exact absurd c341 (by rw [c306]; decide)
                              | (refine ⟨rfl, ?_, hF⟩
                                 first
                                 | (rw [show tp_ord pd len to (pos, wr) = _ from if_pos c218]; exact hX)
                                 | (rw [show tp_ord pd len to (pos, wr) = _ from (if_neg c218).trans (if_pos c224)]; exact hX)
                                 | (rw [show tp_ord pd len to (pos, wr) = _ from (if_neg c218).trans ((if_neg c224).trans (if_pos c279))]; exact hX)
                                 | (rw [show tp_ord pd len to (pos, wr) = _ from (if_neg c218).trans ((if_neg c224).trans ((if_neg c279).trans (if_pos c300)))]; exact hX)
                                 | (rw [show tp_ord pd len to (pos, wr) = _ from (if_neg c218).trans ((if_neg c224).trans ((if_neg c279).trans ((if_neg c300).trans (if_pos c306))))]; exact hX)
                                 | (rw [show tp_ord pd len to (pos, wr) = _ from (if_neg c218).trans ((if_neg c224).trans ((if_neg c279).trans ((if_neg c300).trans (if_neg c306))))]; exact hX))
                            · first | refine zz_aload_n C dX2_readOrder_344 rfl ?_ | refine zz_aload_nN C dX2_readOrder_344 rfl ?_
                              refine zz_bipush (v := 64) C dX2_readOrder_345 (by decide) ?_
                              refine zz_callV C zy_X2_takesBehind (ct_X2_takesBehind hlen (by first | exact tp_o2_le hpos | exact tp_o3_le hpos | exact tp_beh_le (tp_o3_le hpos) (by decide) | exact tp_beh_le (tp_beh_le (tp_o3_le hpos) (by decide)) (by decide) | exact tp_take_le (tp_o3_le hpos) (by decide) | exact tp_take_le (tp_take_le (tp_o3_le hpos) (by decide)) (by decide)) (by decide) hX) rfl q1575 (by first | assumption | exact zz_us | exact zz_lk1 (by assumption) (by assumption) | exact zz_lk3 (hd _ _ (by decide) (by decide) (by decide)) (by assumption) | exact zz_uf (by assumption) (by assumption) | exact zz_lk3 (zz_xi (by assumption) (by assumption)) (zz_lk1 (by assumption) (by assumption)) | exact zz_lk3 (hd _ _ (by decide) (by decide) (by decide)) (zz_lk3 (hd _ _ (by decide) (by decide) (by decide)) (by assumption)) | (simp only [zz_up]; simp_all; done)) rfl rfl rfl rfl rfl rfl dX2_readOrder_347 ⟨Nat.le_of_ble_eq_true rfl, Nat.le_of_ble_eq_true rfl⟩ (fun v hz hp => ?_)
                              obtain ⟨rfl, hX2, hF2⟩ := hp
                              have hF := hF.tr hF2
                              have hX := hX2
                              clear hx h0 h1a h2a h3a h4a h5a h6 h7
                              obtain ⟨hx, h0, h1a, h2a, h3a, h4a, h5a, h6, h7, -⟩ := id hX
                              refine zz_goto (tgt := 361) C dX2_readOrder_350 (by decide) ?_
                              first | refine zz_iast2 C rfl (by omega) (by omega) dX2_readOrder_361 ?_ | refine zz_iast C (by first | assumption | exact zz_us | exact zz_lk1 (by assumption) (by assumption) | exact zz_lk3 (hd _ _ (by decide) (by decide) (by decide)) (by assumption) | exact zz_uf (by assumption) (by assumption) | exact zz_lk3 (zz_xi (by assumption) (by assumption)) (zz_lk1 (by assumption) (by assumption)) | exact zz_lk3 (hd _ _ (by decide) (by decide) (by decide)) (zz_lk3 (hd _ _ (by decide) (by decide) (by decide)) (by assumption)) | (simp only [zz_up]; simp_all; done)) rfl (by omega) (by omega) dX2_readOrder_361 ?_
                              refine zz_gen (P := fun h' => tw_X D h' x ad _ _ _ _ _ _ _ _ _ _ _ _ ∧ tw_F x ad h h') ⟨hX.u7 _, hF.tr (tw_F.up 7 (by decide))⟩ (fun hz hP => ?_)
                              obtain ⟨hX, hF⟩ := hP
                              clear hx h0 h1a h2a h3a h4a h5a h6 h7
                              obtain ⟨hx, h0, h1a, h2a, h3a, h4a, h5a, h6, h7, -⟩ := id hX
                              refine zz_vret C dX2_readOrder_362 rfl rfl ?_
                              first
                              | exact absurd c259 (by rw [c224]; decide)
                              | exact absurd c218 c259
                              | exact absurd c300 c341
                              | exact absurd c341 (by rw [c306]; decide)
                              | (refine ⟨rfl, ?_, hF⟩
                                 first
                                 | (rw [show tp_ord pd len to (pos, wr) = _ from if_pos c218]; exact hX)
                                 | (rw [show tp_ord pd len to (pos, wr) = _ from (if_neg c218).trans (if_pos c224)]; exact hX)
                                 | (rw [show tp_ord pd len to (pos, wr) = _ from (if_neg c218).trans ((if_neg c224).trans (if_pos c279))]; exact hX)
                                 | (rw [show tp_ord pd len to (pos, wr) = _ from (if_neg c218).trans ((if_neg c224).trans ((if_neg c279).trans (if_pos c300)))]; exact hX)
                                 | (rw [show tp_ord pd len to (pos, wr) = _ from (if_neg c218).trans ((if_neg c224).trans ((if_neg c279).trans ((if_neg c300).trans (if_pos c306))))]; exact hX)
                                 | (rw [show tp_ord pd len to (pos, wr) = _ from (if_neg c218).trans ((if_neg c224).trans ((if_neg c279).trans ((if_neg c300).trans (if_neg c306))))]; exact hX))
                      · first | refine zz_aload_n C dX2_readOrder_282 rfl ?_ | refine zz_aload_nN C dX2_readOrder_282 rfl ?_
                        refine zz_get C rfl (by first | assumption | exact zz_us | exact zz_lk1 (by assumption) (by assumption) | exact zz_lk3 (hd _ _ (by decide) (by decide) (by decide)) (by assumption) | exact zz_uf (by assumption) (by assumption) | exact zz_lk3 (zz_xi (by assumption) (by assumption)) (zz_lk1 (by assumption) (by assumption)) | exact zz_lk3 (hd _ _ (by decide) (by decide) (by decide)) (zz_lk3 (hd _ _ (by decide) (by decide) (by decide)) (by assumption)) | (simp only [zz_up]; simp_all; done)) rfl in_X2 11 rfl q1241 (fun _ h => h) (by first | rfl | assumption) dX2_readOrder_283 ?_
                        refine zz_iconst (v := nI 2) C dX2_readOrder_286 (by decide) ?_
                        first | refine zz_aload_n C dX2_readOrder_287 rfl ?_ | refine zz_aload_nN C dX2_readOrder_287 rfl ?_
                        refine zz_bipush (v := 61) C dX2_readOrder_288 (by decide) ?_
                        refine zz_callV C zy_X2_takesBehind (ct_X2_takesBehind hlen (by first | exact tp_o2_le hpos | exact tp_o3_le hpos | exact tp_beh_le (tp_o3_le hpos) (by decide) | exact tp_beh_le (tp_beh_le (tp_o3_le hpos) (by decide)) (by decide) | exact tp_take_le (tp_o3_le hpos) (by decide) | exact tp_take_le (tp_take_le (tp_o3_le hpos) (by decide)) (by decide)) (by decide) hX) rfl q1575 (by first | assumption | exact zz_us | exact zz_lk1 (by assumption) (by assumption) | exact zz_lk3 (hd _ _ (by decide) (by decide) (by decide)) (by assumption) | exact zz_uf (by assumption) (by assumption) | exact zz_lk3 (zz_xi (by assumption) (by assumption)) (zz_lk1 (by assumption) (by assumption)) | exact zz_lk3 (hd _ _ (by decide) (by decide) (by decide)) (zz_lk3 (hd _ _ (by decide) (by decide) (by decide)) (by assumption)) | (simp only [zz_up]; simp_all; done)) rfl rfl rfl rfl rfl rfl dX2_readOrder_290 ⟨Nat.le_of_ble_eq_true rfl, Nat.le_of_ble_eq_true rfl⟩ (fun v hz hp => ?_)
                        obtain ⟨rfl, hX2, hF2⟩ := hp
                        have hF := hF.tr hF2
                        have hX := hX2
                        clear hx h0 h1a h2a h3a h4a h5a h6 h7
                        obtain ⟨hx, h0, h1a, h2a, h3a, h4a, h5a, h6, h7, -⟩ := id hX
                        first | refine zz_iast2 C rfl (by omega) (by omega) dX2_readOrder_293 ?_ | refine zz_iast C (by first | assumption | exact zz_us | exact zz_lk1 (by assumption) (by assumption) | exact zz_lk3 (hd _ _ (by decide) (by decide) (by decide)) (by assumption) | exact zz_uf (by assumption) (by assumption) | exact zz_lk3 (zz_xi (by assumption) (by assumption)) (zz_lk1 (by assumption) (by assumption)) | exact zz_lk3 (hd _ _ (by decide) (by decide) (by decide)) (zz_lk3 (hd _ _ (by decide) (by decide) (by decide)) (by assumption)) | (simp only [zz_up]; simp_all; done)) rfl (by omega) (by omega) dX2_readOrder_293 ?_
                        refine zz_gen (P := fun h' => tw_X D h' x ad _ _ _ _ _ _ _ _ _ _ _ _ ∧ tw_F x ad h h') ⟨hX.u7 _, hF.tr (tw_F.up 7 (by decide))⟩ (fun hz hP => ?_)
                        obtain ⟨hX, hF⟩ := hP
                        clear hx h0 h1a h2a h3a h4a h5a h6 h7
                        obtain ⟨hx, h0, h1a, h2a, h3a, h4a, h5a, h6, h7, -⟩ := id hX
                        refine zz_goto (tgt := 362) C dX2_readOrder_294 (by decide) ?_
                        refine zz_vret C dX2_readOrder_362 rfl rfl ?_
                        first
                        | exact absurd c259 (by rw [c224]; decide)
                        | exact absurd c218 c259
                        | exact absurd c300 c341
                        | exact absurd c341 (by rw [c306]; decide)
                        | (refine ⟨rfl, ?_, hF⟩
                           first
                           | (rw [show tp_ord pd len to (pos, wr) = _ from if_pos c218]; exact hX)
                           | (rw [show tp_ord pd len to (pos, wr) = _ from (if_neg c218).trans (if_pos c224)]; exact hX)
                           | (rw [show tp_ord pd len to (pos, wr) = _ from (if_neg c218).trans ((if_neg c224).trans (if_pos c279))]; exact hX)
                           | (rw [show tp_ord pd len to (pos, wr) = _ from (if_neg c218).trans ((if_neg c224).trans ((if_neg c279).trans (if_pos c300)))]; exact hX)
                           | (rw [show tp_ord pd len to (pos, wr) = _ from (if_neg c218).trans ((if_neg c224).trans ((if_neg c279).trans ((if_neg c300).trans (if_pos c306))))]; exact hX)
                           | (rw [show tp_ord pd len to (pos, wr) = _ from (if_neg c218).trans ((if_neg c224).trans ((if_neg c279).trans ((if_neg c300).trans (if_neg c306))))]; exact hX))
                    · first | refine zz_aload_n C dX2_readOrder_227 rfl ?_ | refine zz_aload_nN C dX2_readOrder_227 rfl ?_
                      refine zz_get C rfl (by first | assumption | exact zz_us | exact zz_lk1 (by assumption) (by assumption) | exact zz_lk3 (hd _ _ (by decide) (by decide) (by decide)) (by assumption) | exact zz_uf (by assumption) (by assumption) | exact zz_lk3 (zz_xi (by assumption) (by assumption)) (zz_lk1 (by assumption) (by assumption)) | exact zz_lk3 (hd _ _ (by decide) (by decide) (by decide)) (zz_lk3 (hd _ _ (by decide) (by decide) (by decide)) (by assumption)) | (simp only [zz_up]; simp_all; done)) rfl in_X2 11 rfl q1241 (fun _ h => h) (by first | rfl | assumption) dX2_readOrder_228 ?_
                      refine zz_iconst (v := nI 2) C dX2_readOrder_231 (by decide) ?_
                      first | refine zz_aload_n C dX2_readOrder_232 rfl ?_ | refine zz_aload_nN C dX2_readOrder_232 rfl ?_
                      refine zz_bipush (v := 120) C dX2_readOrder_233 (by decide) ?_
                      refine zz_callV C zy_X2_takesBehind (ct_X2_takesBehind hlen (by first | exact tp_o2_le hpos | exact tp_o3_le hpos | exact tp_beh_le (tp_o3_le hpos) (by decide) | exact tp_beh_le (tp_beh_le (tp_o3_le hpos) (by decide)) (by decide) | exact tp_take_le (tp_o3_le hpos) (by decide) | exact tp_take_le (tp_take_le (tp_o3_le hpos) (by decide)) (by decide)) (by decide) hX) rfl q1575 (by first | assumption | exact zz_us | exact zz_lk1 (by assumption) (by assumption) | exact zz_lk3 (hd _ _ (by decide) (by decide) (by decide)) (by assumption) | exact zz_uf (by assumption) (by assumption) | exact zz_lk3 (zz_xi (by assumption) (by assumption)) (zz_lk1 (by assumption) (by assumption)) | exact zz_lk3 (hd _ _ (by decide) (by decide) (by decide)) (zz_lk3 (hd _ _ (by decide) (by decide) (by decide)) (by assumption)) | (simp only [zz_up]; simp_all; done)) rfl rfl rfl rfl rfl rfl dX2_readOrder_235 ⟨Nat.le_of_ble_eq_true rfl, Nat.le_of_ble_eq_true rfl⟩ (fun v hz hp => ?_)
                      obtain ⟨rfl, hX2, hF2⟩ := hp
                      have hF := hF.tr hF2
                      have hX := hX2
                      clear hx h0 h1a h2a h3a h4a h5a h6 h7
                      obtain ⟨hx, h0, h1a, h2a, h3a, h4a, h5a, h6, h7, -⟩ := id hX
                      first | refine zz_iast2 C rfl (by omega) (by omega) dX2_readOrder_238 ?_ | refine zz_iast C (by first | assumption | exact zz_us | exact zz_lk1 (by assumption) (by assumption) | exact zz_lk3 (hd _ _ (by decide) (by decide) (by decide)) (by assumption) | exact zz_uf (by assumption) (by assumption) | exact zz_lk3 (zz_xi (by assumption) (by assumption)) (zz_lk1 (by assumption) (by assumption)) | exact zz_lk3 (hd _ _ (by decide) (by decide) (by decide)) (zz_lk3 (hd _ _ (by decide) (by decide) (by decide)) (by assumption)) | (simp only [zz_up]; simp_all; done)) rfl (by omega) (by omega) dX2_readOrder_238 ?_
                      refine zz_gen (P := fun h' => tw_X D h' x ad _ _ _ _ _ _ _ _ _ _ _ _ ∧ tw_F x ad h h') ⟨hX.u7 _, hF.tr (tw_F.up 7 (by decide))⟩ (fun hz hP => ?_)
                      obtain ⟨hX, hF⟩ := hP
                      clear hx h0 h1a h2a h3a h4a h5a h6 h7
                      obtain ⟨hx, h0, h1a, h2a, h3a, h4a, h5a, h6, h7, -⟩ := id hX
                      first | refine zz_aload_n C dX2_readOrder_239 rfl ?_ | refine zz_aload_nN C dX2_readOrder_239 rfl ?_
                      refine zz_get C rfl (by first | assumption | exact zz_us | exact zz_lk1 (by assumption) (by assumption) | exact zz_lk3 (hd _ _ (by decide) (by decide) (by decide)) (by assumption) | exact zz_uf (by assumption) (by assumption) | exact zz_lk3 (zz_xi (by assumption) (by assumption)) (zz_lk1 (by assumption) (by assumption)) | exact zz_lk3 (hd _ _ (by decide) (by decide) (by decide)) (zz_lk3 (hd _ _ (by decide) (by decide) (by decide)) (by assumption)) | (simp only [zz_up]; simp_all; done)) rfl in_X2 11 rfl q1241 (fun _ h => h) (by first | rfl | assumption) dX2_readOrder_240 ?_
                      refine zz_iconst (v := nI 3) C dX2_readOrder_243 (by decide) ?_
                      first | refine zz_aload_n C dX2_readOrder_244 rfl ?_ | refine zz_aload_nN C dX2_readOrder_244 rfl ?_
                      refine zz_bipush (v := 120) C dX2_readOrder_245 (by decide) ?_
                      refine zz_callV C zy_X2_takesBehind (ct_X2_takesBehind hlen (by first | exact tp_o2_le hpos | exact tp_o3_le hpos | exact tp_beh_le (tp_o3_le hpos) (by decide) | exact tp_beh_le (tp_beh_le (tp_o3_le hpos) (by decide)) (by decide) | exact tp_take_le (tp_o3_le hpos) (by decide) | exact tp_take_le (tp_take_le (tp_o3_le hpos) (by decide)) (by decide)) (by decide) hX) rfl q1575 (by first | assumption | exact zz_us | exact zz_lk1 (by assumption) (by assumption) | exact zz_lk3 (hd _ _ (by decide) (by decide) (by decide)) (by assumption) | exact zz_uf (by assumption) (by assumption) | exact zz_lk3 (zz_xi (by assumption) (by assumption)) (zz_lk1 (by assumption) (by assumption)) | exact zz_lk3 (hd _ _ (by decide) (by decide) (by decide)) (zz_lk3 (hd _ _ (by decide) (by decide) (by decide)) (by assumption)) | (simp only [zz_up]; simp_all; done)) rfl rfl rfl rfl rfl rfl dX2_readOrder_247 ⟨Nat.le_of_ble_eq_true rfl, Nat.le_of_ble_eq_true rfl⟩ (fun v hz hp => ?_)
                      obtain ⟨rfl, hX2, hF2⟩ := hp
                      have hF := hF.tr hF2
                      have hX := hX2
                      clear hx h0 h1a h2a h3a h4a h5a h6 h7
                      obtain ⟨hx, h0, h1a, h2a, h3a, h4a, h5a, h6, h7, -⟩ := id hX
                      first | refine zz_iast2 C rfl (by omega) (by omega) dX2_readOrder_250 ?_ | refine zz_iast C (by first | assumption | exact zz_us | exact zz_lk1 (by assumption) (by assumption) | exact zz_lk3 (hd _ _ (by decide) (by decide) (by decide)) (by assumption) | exact zz_uf (by assumption) (by assumption) | exact zz_lk3 (zz_xi (by assumption) (by assumption)) (zz_lk1 (by assumption) (by assumption)) | exact zz_lk3 (hd _ _ (by decide) (by decide) (by decide)) (zz_lk3 (hd _ _ (by decide) (by decide) (by decide)) (by assumption)) | (simp only [zz_up]; simp_all; done)) rfl (by omega) (by omega) dX2_readOrder_250 ?_
                      refine zz_gen (P := fun h' => tw_X D h' x ad _ _ _ _ _ _ _ _ _ _ _ _ ∧ tw_F x ad h h') ⟨hX.u7 _, hF.tr (tw_F.up 7 (by decide))⟩ (fun hz hP => ?_)
                      obtain ⟨hX, hF⟩ := hP
                      clear hx h0 h1a h2a h3a h4a h5a h6 h7
                      obtain ⟨hx, h0, h1a, h2a, h3a, h4a, h5a, h6, h7, -⟩ := id hX
                      first | refine zz_aload_n C dX2_readOrder_251 rfl ?_ | refine zz_aload_nN C dX2_readOrder_251 rfl ?_
                      refine zz_get C rfl (by first | assumption | exact zz_us | exact zz_lk1 (by assumption) (by assumption) | exact zz_lk3 (hd _ _ (by decide) (by decide) (by decide)) (by assumption) | exact zz_uf (by assumption) (by assumption) | exact zz_lk3 (zz_xi (by assumption) (by assumption)) (zz_lk1 (by assumption) (by assumption)) | exact zz_lk3 (hd _ _ (by decide) (by decide) (by decide)) (zz_lk3 (hd _ _ (by decide) (by decide) (by decide)) (by assumption)) | (simp only [zz_up]; simp_all; done)) rfl in_X2 11 rfl q1241 (fun _ h => h) (by first | rfl | assumption) dX2_readOrder_252 ?_
                      refine zz_iconst (v := nI 4) C dX2_readOrder_255 (by decide) ?_
                      refine zz_iload_n C dX2_readOrder_256 rfl ?_
                      refine zz_bipush (v := 113) C dX2_readOrder_257 (by decide) ?_
                      refine zz_icmp_ne (tgt := 271) C dX2_readOrder_259 (by decide) (fun c259 => ?_) (fun c259 => ?_)
                      · refine zz_iconst (v := 0) C dX2_readOrder_271 (by decide) ?_
                        first | refine zz_iast2 C rfl (by omega) (by omega) dX2_readOrder_272 ?_ | refine zz_iast C (by first | assumption | exact zz_us | exact zz_lk1 (by assumption) (by assumption) | exact zz_lk3 (hd _ _ (by decide) (by decide) (by decide)) (by assumption) | exact zz_uf (by assumption) (by assumption) | exact zz_lk3 (zz_xi (by assumption) (by assumption)) (zz_lk1 (by assumption) (by assumption)) | exact zz_lk3 (hd _ _ (by decide) (by decide) (by decide)) (zz_lk3 (hd _ _ (by decide) (by decide) (by decide)) (by assumption)) | (simp only [zz_up]; simp_all; done)) rfl (by omega) (by omega) dX2_readOrder_272 ?_
                        refine zz_gen (P := fun h' => tw_X D h' x ad _ _ _ _ _ _ _ _ _ _ _ _ ∧ tw_F x ad h h') ⟨hX.u7 _, hF.tr (tw_F.up 7 (by decide))⟩ (fun hz hP => ?_)
                        obtain ⟨hX, hF⟩ := hP
                        clear hx h0 h1a h2a h3a h4a h5a h6 h7
                        obtain ⟨hx, h0, h1a, h2a, h3a, h4a, h5a, h6, h7, -⟩ := id hX
                        refine zz_goto (tgt := 362) C dX2_readOrder_273 (by decide) ?_
                        refine zz_vret C dX2_readOrder_362 rfl rfl ?_
                        first
                        | exact absurd c259 (by rw [c224]; decide)
                        | exact absurd c218 c259
                        | exact absurd c300 c341
                        | exact absurd c341 (by rw [c306]; decide)
                        | (refine ⟨rfl, ?_, hF⟩
                           first
                           | (rw [show tp_ord pd len to (pos, wr) = _ from if_pos c218]; exact hX)
                           | (rw [show tp_ord pd len to (pos, wr) = _ from (if_neg c218).trans (if_pos c224)]; exact hX)
                           | (rw [show tp_ord pd len to (pos, wr) = _ from (if_neg c218).trans ((if_neg c224).trans (if_pos c279))]; exact hX)
                           | (rw [show tp_ord pd len to (pos, wr) = _ from (if_neg c218).trans ((if_neg c224).trans ((if_neg c279).trans (if_pos c300)))]; exact hX)
                           | (rw [show tp_ord pd len to (pos, wr) = _ from (if_neg c218).trans ((if_neg c224).trans ((if_neg c279).trans ((if_neg c300).trans (if_pos c306))))]; exact hX)
                           | (rw [show tp_ord pd len to (pos, wr) = _ from (if_neg c218).trans ((if_neg c224).trans ((if_neg c279).trans ((if_neg c300).trans (if_neg c306))))]; exact hX))
                      · first | refine zz_aload_n C dX2_readOrder_262 rfl ?_ | refine zz_aload_nN C dX2_readOrder_262 rfl ?_
                        refine zz_bipush (v := 42) C dX2_readOrder_263 (by decide) ?_
                        refine zz_callV C zy_X2_takesBehind (ct_X2_takesBehind hlen (by first | exact tp_o2_le hpos | exact tp_o3_le hpos | exact tp_beh_le (tp_o3_le hpos) (by decide) | exact tp_beh_le (tp_beh_le (tp_o3_le hpos) (by decide)) (by decide) | exact tp_take_le (tp_o3_le hpos) (by decide) | exact tp_take_le (tp_take_le (tp_o3_le hpos) (by decide)) (by decide)) (by decide) hX) rfl q1575 (by first | assumption | exact zz_us | exact zz_lk1 (by assumption) (by assumption) | exact zz_lk3 (hd _ _ (by decide) (by decide) (by decide)) (by assumption) | exact zz_uf (by assumption) (by assumption) | exact zz_lk3 (zz_xi (by assumption) (by assumption)) (zz_lk1 (by assumption) (by assumption)) | exact zz_lk3 (hd _ _ (by decide) (by decide) (by decide)) (zz_lk3 (hd _ _ (by decide) (by decide) (by decide)) (by assumption)) | (simp only [zz_up]; simp_all; done)) rfl rfl rfl rfl rfl rfl dX2_readOrder_265 ⟨Nat.le_of_ble_eq_true rfl, Nat.le_of_ble_eq_true rfl⟩ (fun v hz hp => ?_)
                        obtain ⟨rfl, hX2, hF2⟩ := hp
                        have hF := hF.tr hF2
                        have hX := hX2
                        clear hx h0 h1a h2a h3a h4a h5a h6 h7
                        obtain ⟨hx, h0, h1a, h2a, h3a, h4a, h5a, h6, h7, -⟩ := id hX
                        refine zz_goto (tgt := 272) C dX2_readOrder_268 (by decide) ?_
                        first | refine zz_iast2 C rfl (by omega) (by omega) dX2_readOrder_272 ?_ | refine zz_iast C (by first | assumption | exact zz_us | exact zz_lk1 (by assumption) (by assumption) | exact zz_lk3 (hd _ _ (by decide) (by decide) (by decide)) (by assumption) | exact zz_uf (by assumption) (by assumption) | exact zz_lk3 (zz_xi (by assumption) (by assumption)) (zz_lk1 (by assumption) (by assumption)) | exact zz_lk3 (hd _ _ (by decide) (by decide) (by decide)) (zz_lk3 (hd _ _ (by decide) (by decide) (by decide)) (by assumption)) | (simp only [zz_up]; simp_all; done)) rfl (by omega) (by omega) dX2_readOrder_272 ?_
                        refine zz_gen (P := fun h' => tw_X D h' x ad _ _ _ _ _ _ _ _ _ _ _ _ ∧ tw_F x ad h h') ⟨hX.u7 _, hF.tr (tw_F.up 7 (by decide))⟩ (fun hz hP => ?_)
                        obtain ⟨hX, hF⟩ := hP
                        clear hx h0 h1a h2a h3a h4a h5a h6 h7
                        obtain ⟨hx, h0, h1a, h2a, h3a, h4a, h5a, h6, h7, -⟩ := id hX
                        refine zz_goto (tgt := 362) C dX2_readOrder_273 (by decide) ?_
                        refine zz_vret C dX2_readOrder_362 rfl rfl ?_
                        first
                        | exact absurd c259 (by rw [c224]; decide)
                        | exact absurd c218 c259
                        | exact absurd c300 c341
                        | exact absurd c341 (by rw [c306]; decide)
                        | (refine ⟨rfl, ?_, hF⟩
                           first
                           | (rw [show tp_ord pd len to (pos, wr) = _ from if_pos c218]; exact hX)
                           | (rw [show tp_ord pd len to (pos, wr) = _ from (if_neg c218).trans (if_pos c224)]; exact hX)
                           | (rw [show tp_ord pd len to (pos, wr) = _ from (if_neg c218).trans ((if_neg c224).trans (if_pos c279))]; exact hX)
                           | (rw [show tp_ord pd len to (pos, wr) = _ from (if_neg c218).trans ((if_neg c224).trans ((if_neg c279).trans (if_pos c300)))]; exact hX)
                           | (rw [show tp_ord pd len to (pos, wr) = _ from (if_neg c218).trans ((if_neg c224).trans ((if_neg c279).trans ((if_neg c300).trans (if_pos c306))))]; exact hX)
                           | (rw [show tp_ord pd len to (pos, wr) = _ from (if_neg c218).trans ((if_neg c224).trans ((if_neg c279).trans ((if_neg c300).trans (if_neg c306))))]; exact hX))
                · intro J214
                  refine zz_iload_n C dX2_readOrder_194 rfl ?_
                  first | refine zz_ifb_eq (tgt := 208) C dX2_readOrder_195 (by decide) (fun c195 => ?_) (fun c195 => ?_) | refine zz_if_eq (tgt := 208) C dX2_readOrder_195 (by decide) (fun c195 => ?_) (fun c195 => ?_)
                  · first | refine zz_aload_n C dX2_readOrder_208 rfl ?_ | refine zz_aload_nN C dX2_readOrder_208 rfl ?_
                    refine zz_get C rfl (by first | assumption | exact zz_us | exact zz_lk1 (by assumption) (by assumption) | exact zz_lk3 (hd _ _ (by decide) (by decide) (by decide)) (by assumption) | exact zz_uf (by assumption) (by assumption) | exact zz_lk3 (zz_xi (by assumption) (by assumption)) (zz_lk1 (by assumption) (by assumption)) | exact zz_lk3 (hd _ _ (by decide) (by decide) (by decide)) (zz_lk3 (hd _ _ (by decide) (by decide) (by decide)) (by assumption)) | (simp only [zz_up]; simp_all; done)) rfl in_X2 11 rfl q1241 (fun _ h => h) (by first | rfl | assumption) dX2_readOrder_209 ?_
                    refine zz_iconst (v := nI 1) C dX2_readOrder_212 (by decide) ?_
                    refine zz_iald C (by first | assumption | exact zz_us | exact zz_lk1 (by assumption) (by assumption) | exact zz_lk3 (hd _ _ (by decide) (by decide) (by decide)) (by assumption) | exact zz_uf (by assumption) (by assumption) | exact zz_lk3 (zz_xi (by assumption) (by assumption)) (zz_lk1 (by assumption) (by assumption)) | exact zz_lk3 (hd _ _ (by decide) (by decide) (by decide)) (zz_lk3 (hd _ _ (by decide) (by decide) (by decide)) (by assumption)) | (simp only [zz_up]; simp_all; done)) rfl (by omega) (by omega) dX2_readOrder_213 ?_
                    exact J214 _ (by rw [up_s]; first | exact zz_ift ‹_› | exact zz_iff ‹_›)
                  · first | refine zz_aload_n C dX2_readOrder_198 rfl ?_ | refine zz_aload_nN C dX2_readOrder_198 rfl ?_
                    refine zz_get C rfl (by first | assumption | exact zz_us | exact zz_lk1 (by assumption) (by assumption) | exact zz_lk3 (hd _ _ (by decide) (by decide) (by decide)) (by assumption) | exact zz_uf (by assumption) (by assumption) | exact zz_lk3 (zz_xi (by assumption) (by assumption)) (zz_lk1 (by assumption) (by assumption)) | exact zz_lk3 (hd _ _ (by decide) (by decide) (by decide)) (zz_lk3 (hd _ _ (by decide) (by decide) (by decide)) (by assumption)) | (simp only [zz_up]; simp_all; done)) rfl in_X2 11 rfl q1241 (fun _ h => h) (by first | rfl | assumption) dX2_readOrder_199 ?_
                    refine zz_iconst (v := nI 1) C dX2_readOrder_202 (by decide) ?_
                    refine zz_iald C (by first | assumption | exact zz_us | exact zz_lk1 (by assumption) (by assumption) | exact zz_lk3 (hd _ _ (by decide) (by decide) (by decide)) (by assumption) | exact zz_uf (by assumption) (by assumption) | exact zz_lk3 (zz_xi (by assumption) (by assumption)) (zz_lk1 (by assumption) (by assumption)) | exact zz_lk3 (hd _ _ (by decide) (by decide) (by decide)) (zz_lk3 (hd _ _ (by decide) (by decide) (by decide)) (by assumption)) | (simp only [zz_up]; simp_all; done)) rfl (by omega) (by omega) dX2_readOrder_203 ?_
                    refine zz_ineg C dX2_readOrder_204 ?_
                    refine zz_goto (tgt := 214) C dX2_readOrder_205 (by decide) ?_
                    exact J214 _ (by rw [up_s]; first | exact zz_ift ‹_› | exact zz_iff ‹_›)
            · intro J158
              refine zz_iload_n C dX2_readOrder_149 rfl ?_
              first | refine zz_ifb_eq (tgt := 157) C dX2_readOrder_150 (by decide) (fun c150 => ?_) (fun c150 => ?_) | refine zz_if_eq (tgt := 157) C dX2_readOrder_150 (by decide) (fun c150 => ?_) (fun c150 => ?_)
              · refine zz_iconst (v := 0) C dX2_readOrder_157 (by decide) ?_
                exact J158 _ (by first | exact zz_bt ‹_› | exact zz_bf ‹_› | rfl | (simp_all [zz_b, tp_let, tp_ob, -Int32.not_le, -Int32.not_lt]; done))
              · refine zz_iconst (v := 1) C dX2_readOrder_153 (by decide) ?_
                refine zz_goto (tgt := 158) C dX2_readOrder_154 (by decide) ?_
                exact J158 _ (by first | exact zz_bt ‹_› | exact zz_bf ‹_› | rfl | (simp_all [zz_b, tp_let, tp_ob, -Int32.not_le, -Int32.not_lt]; done))
          · intro J143
            refine zz_iload_n C dX2_readOrder_121 rfl ?_
            refine zz_bipush (v := 110) C dX2_readOrder_122 (by decide) ?_
            refine zz_icmp_ne (tgt := 142) C dX2_readOrder_124 (by decide) (fun c124 => ?_) (fun c124 => ?_)
            · refine zz_iconst (v := 0) C dX2_readOrder_142 (by decide) ?_
              exact J143 _ (by first | exact zz_bt ‹_› | exact zz_bf ‹_› | rfl | (simp_all [zz_b, tp_let, tp_ob, -Int32.not_le, -Int32.not_lt]; done))
            · first | refine zz_aload_n C dX2_readOrder_127 rfl ?_ | refine zz_aload_nN C dX2_readOrder_127 rfl ?_
              refine zz_bipush (v := 45) C dX2_readOrder_128 (by decide) ?_
              refine zz_bipush (v := 45) C dX2_readOrder_130 (by decide) ?_
              refine zz_callV C zy_X2_isNext (ct_X2_isNext hlen (tp_o1_le hpos) hX) rfl q1563 (by first | assumption | exact zz_us | exact zz_lk1 (by assumption) (by assumption) | exact zz_lk3 (hd _ _ (by decide) (by decide) (by decide)) (by assumption) | exact zz_uf (by assumption) (by assumption) | exact zz_lk3 (zz_xi (by assumption) (by assumption)) (zz_lk1 (by assumption) (by assumption)) | exact zz_lk3 (hd _ _ (by decide) (by decide) (by decide)) (zz_lk3 (hd _ _ (by decide) (by decide) (by decide)) (by assumption)) | (simp only [zz_up]; simp_all; done)) rfl rfl rfl rfl rfl rfl dX2_readOrder_132 ⟨Nat.le_of_ble_eq_true rfl, Nat.le_of_ble_eq_true rfl⟩ (fun v hz hp => ?_)
              obtain ⟨rfl, ez⟩ := hp
              obtain rfl := ez.symm
              first | refine zz_ifb_eq (tgt := 142) C dX2_readOrder_135 (by decide) (fun c135 => ?_) (fun c135 => ?_) | refine zz_if_eq (tgt := 142) C dX2_readOrder_135 (by decide) (fun c135 => ?_) (fun c135 => ?_)
              · refine zz_iconst (v := 0) C dX2_readOrder_142 (by decide) ?_
                exact J143 _ (by first | exact zz_bt ‹_› | exact zz_bf ‹_› | rfl | (simp_all [zz_b, tp_let, tp_ob, -Int32.not_le, -Int32.not_lt]; done))
              · refine zz_iconst (v := 1) C dX2_readOrder_138 (by decide) ?_
                refine zz_goto (tgt := 143) C dX2_readOrder_139 (by decide) ?_
                exact J143 _ (by first | exact zz_bt ‹_› | exact zz_bf ‹_› | rfl | (simp_all [zz_b, tp_let, tp_ob, -Int32.not_le, -Int32.not_lt]; done))
        · intro J110
          first | refine zz_aload_n C dX2_readOrder_98 rfl ?_ | refine zz_aload_nN C dX2_readOrder_98 rfl ?_
          refine zz_get C rfl (by first | assumption | exact zz_us | exact zz_lk1 (by assumption) (by assumption) | exact zz_lk3 (hd _ _ (by decide) (by decide) (by decide)) (by assumption) | exact zz_uf (by assumption) (by assumption) | exact zz_lk3 (zz_xi (by assumption) (by assumption)) (zz_lk1 (by assumption) (by assumption)) | exact zz_lk3 (hd _ _ (by decide) (by decide) (by decide)) (zz_lk3 (hd _ _ (by decide) (by decide) (by decide)) (by assumption)) | (simp only [zz_up]; simp_all; done)) rfl in_X2 10 rfl q1240 (fun _ h => h) (by first | rfl | assumption) dX2_readOrder_99 ?_
          first | refine zz_ifb_eq (tgt := 109) C dX2_readOrder_102 (by decide) (fun c102 => ?_) (fun c102 => ?_) | refine zz_if_eq (tgt := 109) C dX2_readOrder_102 (by decide) (fun c102 => ?_) (fun c102 => ?_)
          · refine zz_iconst (v := 1) C dX2_readOrder_109 (by decide) ?_
            exact J110 _ (by first | (rw [c102]; rfl))
          · refine zz_iconst (v := 0) C dX2_readOrder_105 (by decide) ?_
            refine zz_goto (tgt := 110) C dX2_readOrder_106 (by decide) ?_
            exact J110 _ (by first | (rw [c102]; rfl))
      · intro J90
        first | refine zz_aload_n C dX2_readOrder_74 rfl ?_ | refine zz_aload_nN C dX2_readOrder_74 rfl ?_
        refine zz_get C rfl (by first | assumption | exact zz_us | exact zz_lk1 (by assumption) (by assumption) | exact zz_lk3 (hd _ _ (by decide) (by decide) (by decide)) (by assumption) | exact zz_uf (by assumption) (by assumption) | exact zz_lk3 (zz_xi (by assumption) (by assumption)) (zz_lk1 (by assumption) (by assumption)) | exact zz_lk3 (hd _ _ (by decide) (by decide) (by decide)) (zz_lk3 (hd _ _ (by decide) (by decide) (by decide)) (by assumption)) | (simp only [zz_up]; simp_all; done)) rfl in_X2 10 rfl q1240 (fun _ h => h) (by first | rfl | assumption) dX2_readOrder_75 ?_
        first | refine zz_ifb_ne (tgt := 85) C dX2_readOrder_78 (by decide) (fun c78 => ?_) (fun c78 => ?_) | refine zz_if_ne (tgt := 85) C dX2_readOrder_78 (by decide) (fun c78 => ?_) (fun c78 => ?_)
        · refine zz_iconst (v := 1) C dX2_readOrder_85 (by decide) ?_
          refine zz_goto (tgt := 90) C dX2_readOrder_86 (by decide) ?_
          exact J90 _ (by first | (simp_all [zz_b]; done))
        · refine zz_iload_n C dX2_readOrder_81 rfl ?_
          first | refine zz_ifb_ne (tgt := 89) C dX2_readOrder_82 (by decide) (fun c82 => ?_) (fun c82 => ?_) | refine zz_if_ne (tgt := 89) C dX2_readOrder_82 (by decide) (fun c82 => ?_) (fun c82 => ?_)
          · refine zz_iconst (v := 0) C dX2_readOrder_89 (by decide) ?_
            exact J90 _ (by first | (simp_all [zz_b]; done))
          · refine zz_iconst (v := 1) C dX2_readOrder_85 (by decide) ?_
            refine zz_goto (tgt := 90) C dX2_readOrder_86 (by decide) ?_
            exact J90 _ (by first | (simp_all [zz_b]; done))
    · intro J72
      refine zz_iload_n C dX2_readOrder_25 rfl ?_
      refine zz_bipush (v := 113) C dX2_readOrder_26 (by decide) ?_
      refine zz_icmp_eq (tgt := 67) C dX2_readOrder_28 (by decide) (fun c28 => ?_) (fun c28 => ?_)
      · refine zz_iconst (v := 1) C dX2_readOrder_67 (by decide) ?_
        refine zz_goto (tgt := 72) C dX2_readOrder_68 (by decide) ?_
        exact J72 _ (by first | exact zz_bt ‹_› | exact zz_bf ‹_› | rfl | (simp_all [zz_b, tp_let, tp_ob, -Int32.not_le, -Int32.not_lt]; done))
      · refine zz_iload_n C dX2_readOrder_31 rfl ?_
        refine zz_bipush (v := 99) C dX2_readOrder_32 (by decide) ?_
        refine zz_icmp_eq (tgt := 67) C dX2_readOrder_34 (by decide) (fun c34 => ?_) (fun c34 => ?_)
        · refine zz_iconst (v := 1) C dX2_readOrder_67 (by decide) ?_
          refine zz_goto (tgt := 72) C dX2_readOrder_68 (by decide) ?_
          exact J72 _ (by first | exact zz_bt ‹_› | exact zz_bf ‹_› | rfl | (simp_all [zz_b, tp_let, tp_ob, -Int32.not_le, -Int32.not_lt]; done))
        · refine zz_iload_n C dX2_readOrder_37 rfl ?_
          refine zz_bipush (v := 111) C dX2_readOrder_38 (by decide) ?_
          refine zz_icmp_eq (tgt := 67) C dX2_readOrder_40 (by decide) (fun c40 => ?_) (fun c40 => ?_)
          · refine zz_iconst (v := 1) C dX2_readOrder_67 (by decide) ?_
            refine zz_goto (tgt := 72) C dX2_readOrder_68 (by decide) ?_
            exact J72 _ (by first | exact zz_bt ‹_› | exact zz_bf ‹_› | rfl | (simp_all [zz_b, tp_let, tp_ob, -Int32.not_le, -Int32.not_lt]; done))
          · refine zz_iload_n C dX2_readOrder_43 rfl ?_
            refine zz_bipush (v := 103) C dX2_readOrder_44 (by decide) ?_
            refine zz_icmp_eq (tgt := 67) C dX2_readOrder_46 (by decide) (fun c46 => ?_) (fun c46 => ?_)
            · refine zz_iconst (v := 1) C dX2_readOrder_67 (by decide) ?_
              refine zz_goto (tgt := 72) C dX2_readOrder_68 (by decide) ?_
              exact J72 _ (by first | exact zz_bt ‹_› | exact zz_bf ‹_› | rfl | (simp_all [zz_b, tp_let, tp_ob, -Int32.not_le, -Int32.not_lt]; done))
            · refine zz_iload_n C dX2_readOrder_49 rfl ?_
              refine zz_bipush (v := 108) C dX2_readOrder_50 (by decide) ?_
              refine zz_icmp_eq (tgt := 67) C dX2_readOrder_52 (by decide) (fun c52 => ?_) (fun c52 => ?_)
              · refine zz_iconst (v := 1) C dX2_readOrder_67 (by decide) ?_
                refine zz_goto (tgt := 72) C dX2_readOrder_68 (by decide) ?_
                exact J72 _ (by first | exact zz_bt ‹_› | exact zz_bf ‹_› | rfl | (simp_all [zz_b, tp_let, tp_ob, -Int32.not_le, -Int32.not_lt]; done))
              · refine zz_iload_n C dX2_readOrder_55 rfl ?_
                refine zz_bipush (v := 110) C dX2_readOrder_56 (by decide) ?_
                refine zz_icmp_eq (tgt := 67) C dX2_readOrder_58 (by decide) (fun c58 => ?_) (fun c58 => ?_)
                · refine zz_iconst (v := 1) C dX2_readOrder_67 (by decide) ?_
                  refine zz_goto (tgt := 72) C dX2_readOrder_68 (by decide) ?_
                  exact J72 _ (by first | exact zz_bt ‹_› | exact zz_bf ‹_› | rfl | (simp_all [zz_b, tp_let, tp_ob, -Int32.not_le, -Int32.not_lt]; done))
                · refine zz_iload_n C dX2_readOrder_61 rfl ?_
                  refine zz_bipush (v := 100) C dX2_readOrder_62 (by decide) ?_
                  refine zz_icmp_ne (tgt := 71) C dX2_readOrder_64 (by decide) (fun c64 => ?_) (fun c64 => ?_)
                  · refine zz_iconst (v := 0) C dX2_readOrder_71 (by decide) ?_
                    exact J72 _ (by first | exact zz_bt ‹_› | exact zz_bf ‹_› | rfl | (simp_all [zz_b, tp_let, tp_ob, -Int32.not_le, -Int32.not_lt]; done))
                  · refine zz_iconst (v := 1) C dX2_readOrder_67 (by decide) ?_
                    refine zz_goto (tgt := 72) C dX2_readOrder_68 (by decide) ?_
                    exact J72 _ (by first | exact zz_bt ‹_› | exact zz_bf ‹_› | rfl | (simp_all [zz_b, tp_let, tp_ob, -Int32.not_le, -Int32.not_lt]; done))
  · intro J24
    first | refine zz_aload_n C dX2_readOrder_0 rfl ?_ | refine zz_aload_nN C dX2_readOrder_0 rfl ?_
    refine zz_get C rfl (by first | assumption | exact zz_us | exact zz_lk1 (by assumption) (by assumption) | exact zz_lk3 (hd _ _ (by decide) (by decide) (by decide)) (by assumption) | exact zz_uf (by assumption) (by assumption) | exact zz_lk3 (zz_xi (by assumption) (by assumption)) (zz_lk1 (by assumption) (by assumption)) | exact zz_lk3 (hd _ _ (by decide) (by decide) (by decide)) (zz_lk3 (hd _ _ (by decide) (by decide) (by decide)) (by assumption)) | (simp only [zz_up]; simp_all; done)) rfl in_X2 9 rfl q1239 (fun _ h => h) (by first | rfl | assumption) dX2_readOrder_1 ?_
    first | refine zz_aload_n C dX2_readOrder_4 rfl ?_ | refine zz_aload_nN C dX2_readOrder_4 rfl ?_
    refine zz_get C rfl (by first | assumption | exact zz_us | exact zz_lk1 (by assumption) (by assumption) | exact zz_lk3 (hd _ _ (by decide) (by decide) (by decide)) (by assumption) | exact zz_uf (by assumption) (by assumption) | exact zz_lk3 (zz_xi (by assumption) (by assumption)) (zz_lk1 (by assumption) (by assumption)) | exact zz_lk3 (hd _ _ (by decide) (by decide) (by decide)) (zz_lk3 (hd _ _ (by decide) (by decide) (by decide)) (by assumption)) | (simp only [zz_up]; simp_all; done)) rfl in_X2 7 rfl q1237 (fun _ h => h) (by first | rfl | assumption) dX2_readOrder_5 ?_
    refine zz_icmp_ge (tgt := 23) C dX2_readOrder_8 (by decide) (fun c8 => ?_) (fun c8 => ?_)
    · have hpl : ¬ pos < len := by
        have := (nI_leI (by omega) (by omega)).mp c8
        omega
      refine zz_iconst (v := 0) C dX2_readOrder_23 (by decide) ?_
      exact J24 _ (by first | exact (if_pos ‹_›).symm | exact (if_neg ‹_›).symm)
    · have hpl : pos < len := Nat.not_le.mp (fun q => c8 (nI_le q (by omega)))
      first | refine zz_aload_n C dX2_readOrder_11 rfl ?_ | refine zz_aload_nN C dX2_readOrder_11 rfl ?_
      refine zz_get C rfl (by first | assumption | exact zz_us | exact zz_lk1 (by assumption) (by assumption) | exact zz_lk3 (hd _ _ (by decide) (by decide) (by decide)) (by assumption) | exact zz_uf (by assumption) (by assumption) | exact zz_lk3 (zz_xi (by assumption) (by assumption)) (zz_lk1 (by assumption) (by assumption)) | exact zz_lk3 (hd _ _ (by decide) (by decide) (by decide)) (zz_lk3 (hd _ _ (by decide) (by decide) (by decide)) (by assumption)) | (simp only [zz_up]; simp_all; done)) rfl in_X2 6 rfl q1236 (fun _ h => h) (by first | rfl | assumption) dX2_readOrder_12 ?_
      first | refine zz_aload_n C dX2_readOrder_15 rfl ?_ | refine zz_aload_nN C dX2_readOrder_15 rfl ?_
      refine zz_get C rfl (by first | assumption | exact zz_us | exact zz_lk1 (by assumption) (by assumption) | exact zz_lk3 (hd _ _ (by decide) (by decide) (by decide)) (by assumption) | exact zz_uf (by assumption) (by assumption) | exact zz_lk3 (zz_xi (by assumption) (by assumption)) (zz_lk1 (by assumption) (by assumption)) | exact zz_lk3 (hd _ _ (by decide) (by decide) (by decide)) (zz_lk3 (hd _ _ (by decide) (by decide) (by decide)) (by assumption)) | (simp only [zz_up]; simp_all; done)) rfl in_X2 9 rfl q1239 (fun _ h => h) (by first | rfl | assumption) dX2_readOrder_16 ?_
      refine zz_iald C (by first | assumption | exact zz_us | exact zz_lk1 (by assumption) (by assumption) | exact zz_lk3 (hd _ _ (by decide) (by decide) (by decide)) (by assumption) | exact zz_uf (by assumption) (by assumption) | exact zz_lk3 (zz_xi (by assumption) (by assumption)) (zz_lk1 (by assumption) (by assumption)) | exact zz_lk3 (hd _ _ (by decide) (by decide) (by decide)) (zz_lk3 (hd _ _ (by decide) (by decide) (by decide)) (by assumption)) | (simp only [zz_up]; simp_all; done)) rfl (by omega) (by omega) dX2_readOrder_19 ?_
      refine zz_goto (tgt := 24) C dX2_readOrder_20 (by decide) ?_
      exact J24 _ (by first | exact (if_pos ‹_›).symm | exact (if_neg ‹_›).symm)

