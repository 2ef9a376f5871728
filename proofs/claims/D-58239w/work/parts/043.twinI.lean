/-! the twin: doing its pad; fault, carryOut -/
set_option maxHeartbeats 1000000 in
theorem ct_X2_goes1 {l : Launch} {D : va_G} {b0 : Nat} {h : zz_H} {x : Nat} {ad : Nat → Nat} {a ah hi : Nat → Int32} {kp : Nat} {sl sv pd : Nat → Int32} {len : Nat} {so to : Nat → Int32} {pos wr : Int32} (hlen : len ≤ 80) (hwf : wf a) (hok : (tp_go pd len 81 to (0, false)).2.2 = false) (hX : tw_X D h x ad a ah hi kp sl sv pd len so pos wr to)  : zz_Ct l D b0 yX2_goes cX2_goes 6 (some .int) 7 164 0 0 [.ref x, .int 1] h (fun v h' => ∃ (so' to' : Nat → Int32) (pos' wr' : Int32), v = some (.int (nI (tp_do pd len 81 a to (0, false)).1)) ∧ tw_X D h' x ad (tp_do pd len 81 a to (0, false)).2 ah hi kp sl sv pd len so' pos' wr' to' ∧ tw_F x ad h h') := by
  refine zz_Ct.of zy_X2_goes.1 rfl ?_
  intro p e s m below meth c C
  obtain ⟨hx, h0, h1a, h2a, h3a, h4a, h5a, h6, h7, hd⟩ := id hX
  first | refine zz_aload_n C dX2_goes_0 rfl ?_ | refine zz_aload_nN C dX2_goes_0 rfl ?_
  refine zz_iconst (v := 0) C dX2_goes_1 (by decide) ?_
  refine zz_put C rfl (by first | assumption | exact zz_us | exact zz_lk1 (by assumption) (by assumption) | exact zz_lk3 (hd _ _ (by decide) (by decide) (by decide)) (by assumption) | exact zz_uf (by assumption) (by assumption) | exact zz_lk3 (zz_xi (by assumption) (by assumption)) (zz_lk1 (by assumption) (by assumption)) | exact zz_lk3 (hd _ _ (by decide) (by decide) (by decide)) (zz_lk3 (hd _ _ (by decide) (by decide) (by decide)) (by assumption)) | (simp only [zz_up]; simp_all; done)) rfl in_X2 tyX2 tyX2_ok nmX2 9 rfl q1239 (fun _ h => h) rfl (tyX2_ok 9 (by decide)) (by first | rfl | exact zz_narZ (by first | exact zz_b01 _ | assumption | decide)) rfl (Nat.le_of_ble_eq_true rfl) dX2_goes_2 ?_
  first | refine zz_aload_n C dX2_goes_5 rfl ?_ | refine zz_aload_nN C dX2_goes_5 rfl ?_
  refine zz_iconst (v := 0) C dX2_goes_6 (by decide) ?_
  refine zz_put C rfl (by first | assumption | exact zz_us | exact zz_lk1 (by assumption) (by assumption) | exact zz_lk3 (hd _ _ (by decide) (by decide) (by decide)) (by assumption) | exact zz_uf (by assumption) (by assumption) | exact zz_lk3 (zz_xi (by assumption) (by assumption)) (zz_lk1 (by assumption) (by assumption)) | exact zz_lk3 (hd _ _ (by decide) (by decide) (by decide)) (zz_lk3 (hd _ _ (by decide) (by decide) (by decide)) (by assumption)) | (simp only [zz_up]; simp_all; done)) rfl in_X2 tyX2 tyX2_ok nmX2 10 rfl q1240 (fun _ h => h) rfl (tyX2_ok 10 (by decide)) (by first | rfl | exact zz_narZ (by first | exact zz_b01 _ | assumption | decide)) (by first | exact zz_fitZ _ | rfl | exact zz_fit01 (by assumption)) (Nat.le_of_ble_eq_true rfl) dX2_goes_7 ?_
  rw [zz_upup]
  refine zz_gen (P := fun h' => tw_X D h' x ad a ah hi kp sl sv pd len so (nI ((0 : Nat), false).1) (zz_b ((0 : Nat), false).2) to ∧ tw_F x ad h h') ⟨hX.fx kp len (nI 0) (zz_b false), tw_F.ux⟩ (fun hz hP => ?_)
  obtain ⟨hX0, hF0⟩ := hP
  clear hx h0 h1a h2a h3a h4a h5a h6 h7
  obtain ⟨hx, h0, h1a, h2a, h3a, h4a, h5a, h6, h7, -⟩ := id hX0
  refine zz_iconst (v := 0) C dX2_goes_10 (by decide) ?_
  refine zz_istore_n C dX2_goes_11 (by decide) ?_
  refine zz_iconst (v := 1) C dX2_goes_12 (by decide) ?_
  refine zz_istore_n C dX2_goes_13 (by decide) ?_
  have L14 : ∀ (n : Nat) (f : Nat) (mo : Bool) (k : Nat) (a1 so1 to1 : Nat → Int32) (q : Nat × Bool) (hz : zz_H), 1 ≤ n → (mo = true → f + 1 ≤ n) → (mo = true → len < q.1 + f) → (mo = true → (tp_go pd len f to1 q).2.2 = false) → q.1 ≤ len → wf a1 → k + (tp_doM pd len mo f a1 to1 q).1 = (tp_do pd len 81 a to (0, false)).1 → (tp_doM pd len mo f a1 to1 q).2 = (tp_do pd len 81 a to (0, false)).2 → tw_X D hz x ad a1 ah hi kp sl sv pd len so1 (nI q.1) (zz_b q.2) to1 → tw_F x ad h hz → zz_V D b0 6 p l e ({ frames := 7, cells := 0, slots := 0, locals := 164 } : Jvm.Room) s m ([.ref x, .int 1] : List Value).toArray below meth c (MQ below (zz_Q D b0 (fun v h' => ∃ (so' to' : Nat → Int32) (pos' wr' : Int32), v = some (.int (nI (tp_do pd len 81 a to (0, false)).1)) ∧ tw_X D h' x ad (tp_do pd len 81 a to (0, false)).2 ah hi kp sl sv pd len so' pos' wr' to' ∧ tw_F x ad h h')) ([.ref x, .int 1] : List Value).toArray s 0 0 (fun q => b0 ≤ q)) 0 0 hz [(0, .ref x), (1, .int 1), (2, .int (nI k)), (3, .int (zz_b mo))] 14 [] := by
    intro n
    induction n with
    | zero =>
      intro f mo k a1 so1 to1 q hz hn0 hnf hlf hko hq hwq hE hE2 hXq hFq
      exact absurd hn0 (by omega)
    | succ n ih =>
      intro f mo k a1 so1 to1 q hz hn0 hnf hlf hko hq hwq hE hE2 hXq hFq
      clear hx h0 h1a h2a h3a h4a h5a h6 h7
      obtain ⟨hx, h0, h1a, h2a, h3a, h4a, h5a, h6, h7, -⟩ := id hXq
      refine zz_iload_n C dX2_goes_14 rfl ?_
      first | refine zz_ifb_eq (tgt := 142) C dX2_goes_15 (by decide) (fun c15 => ?_) (fun c15 => ?_) | refine zz_if_eq (tgt := 142) C dX2_goes_15 (by decide) (fun c15 => ?_) (fun c15 => ?_)
      · refine zz_iload_n C dX2_goes_142 rfl ?_
        refine zz_iret C dX2_goes_143 rfl rfl ?_
        subst c15
        refine ⟨so1, to1, nI q.1, zz_b q.2, ?_, ?_, hFq⟩
        · rw [← hE]; rfl
        · rw [← hE2]; exact hXq
      · subst c15
        obtain ⟨f1, rfl⟩ : ∃ f1, f = f1 + 1 := ⟨f - 1, by have := hlf rfl; omega⟩
        have hn1 := hnf rfl
        have hlf1 := hlf rfl
        have hok1 := tp_go_w f1 to1 q (hko rfl)
        have hlet := tp_let_c (tp_ord_w hok1).2
        rw [← (tp_ord_0 (pd := pd) (len := len) (to := to1) (q := q)).1] at hlet
        obtain ⟨nb, no, hfw⟩ := id hwq
        first | refine zz_aload_n C dX2_goes_18 rfl ?_ | refine zz_aload_nN C dX2_goes_18 rfl ?_
        refine zz_callV C zy_X2_readOrder (ct_X2_readOrder hlen hq hXq) rfl q1559 (by first | assumption | exact zz_us | exact zz_lk1 (by assumption) (by assumption) | exact zz_lk3 (hd _ _ (by decide) (by decide) (by decide)) (by assumption) | exact zz_uf (by assumption) (by assumption) | exact zz_lk3 (zz_xi (by assumption) (by assumption)) (zz_lk1 (by assumption) (by assumption)) | exact zz_lk3 (hd _ _ (by decide) (by decide) (by decide)) (zz_lk3 (hd _ _ (by decide) (by decide) (by decide)) (by assumption)) | (simp only [zz_up]; simp_all; done)) rfl rfl rfl rfl rfl rfl dX2_goes_19 ⟨Nat.le_of_ble_eq_true rfl, Nat.le_of_ble_eq_true rfl⟩ (fun v hz hp => ?_)
        obtain ⟨rfl, hX1, hF1⟩ := hp
        have hX1 : tw_X D hz x ad a1 ah hi kp sl sv pd len so1 (nI (tp_ord pd len to1 q).2.1) (zz_b (tp_ord pd len to1 q).2.2) (tp_ord pd len to1 q).1 := hX1
        clear hx h0 h1a h2a h3a h4a h5a h6 h7
        obtain ⟨hx, h0, h1a, h2a, h3a, h4a, h5a, h6, h7, -⟩ := id hX1
        refine zz_iload_n C dX2_goes_22 rfl ?_
        refine zz_if_eq (tgt := 63) C dX2_goes_23 (by decide) (fun c23 => ?_) (fun c23 => ?_)
        · exact absurd c23 (by decide)
        · first | refine zz_aload_n C dX2_goes_26 rfl ?_ | refine zz_aload_nN C dX2_goes_26 rfl ?_
          first | refine zz_aload_n C dX2_goes_27 rfl ?_ | refine zz_aload_nN C dX2_goes_27 rfl ?_
          refine zz_get C rfl (by first | assumption | exact zz_us | exact zz_lk1 (by assumption) (by assumption) | exact zz_lk3 (hd _ _ (by decide) (by decide) (by decide)) (by assumption) | exact zz_uf (by assumption) (by assumption) | exact zz_lk3 (zz_xi (by assumption) (by assumption)) (zz_lk1 (by assumption) (by assumption)) | exact zz_lk3 (hd _ _ (by decide) (by decide) (by decide)) (zz_lk3 (hd _ _ (by decide) (by decide) (by decide)) (by assumption)) | (simp only [zz_up]; simp_all; done)) rfl in_X2 11 rfl q1241 (fun _ h => h) (by first | rfl | assumption) dX2_goes_28 ?_
          refine zz_iconst (v := nI 0) C dX2_goes_31 (by decide) ?_
          refine zz_iald C (by first | assumption | exact zz_us | exact zz_lk1 (by assumption) (by assumption) | exact zz_lk3 (hd _ _ (by decide) (by decide) (by decide)) (by assumption) | exact zz_uf (by assumption) (by assumption) | exact zz_lk3 (zz_xi (by assumption) (by assumption)) (zz_lk1 (by assumption) (by assumption)) | exact zz_lk3 (hd _ _ (by decide) (by decide) (by decide)) (zz_lk3 (hd _ _ (by decide) (by decide) (by decide)) (by assumption)) | (simp only [zz_up]; simp_all; done)) rfl (by omega) (by omega) dX2_goes_32 ?_
          first | refine zz_aload_n C dX2_goes_33 rfl ?_ | refine zz_aload_nN C dX2_goes_33 rfl ?_
          refine zz_get C rfl (by first | assumption | exact zz_us | exact zz_lk1 (by assumption) (by assumption) | exact zz_lk3 (hd _ _ (by decide) (by decide) (by decide)) (by assumption) | exact zz_uf (by assumption) (by assumption) | exact zz_lk3 (zz_xi (by assumption) (by assumption)) (zz_lk1 (by assumption) (by assumption)) | exact zz_lk3 (hd _ _ (by decide) (by decide) (by decide)) (zz_lk3 (hd _ _ (by decide) (by decide) (by decide)) (by assumption)) | (simp only [zz_up]; simp_all; done)) rfl in_X2 11 rfl q1241 (fun _ h => h) (by first | rfl | assumption) dX2_goes_34 ?_
          refine zz_iconst (v := nI 1) C dX2_goes_37 (by decide) ?_
          refine zz_iald C (by first | assumption | exact zz_us | exact zz_lk1 (by assumption) (by assumption) | exact zz_lk3 (hd _ _ (by decide) (by decide) (by decide)) (by assumption) | exact zz_uf (by assumption) (by assumption) | exact zz_lk3 (zz_xi (by assumption) (by assumption)) (zz_lk1 (by assumption) (by assumption)) | exact zz_lk3 (hd _ _ (by decide) (by decide) (by decide)) (zz_lk3 (hd _ _ (by decide) (by decide) (by decide)) (by assumption)) | (simp only [zz_up]; simp_all; done)) rfl (by omega) (by omega) dX2_goes_38 ?_
          first | refine zz_aload_n C dX2_goes_39 rfl ?_ | refine zz_aload_nN C dX2_goes_39 rfl ?_
          refine zz_get C rfl (by first | assumption | exact zz_us | exact zz_lk1 (by assumption) (by assumption) | exact zz_lk3 (hd _ _ (by decide) (by decide) (by decide)) (by assumption) | exact zz_uf (by assumption) (by assumption) | exact zz_lk3 (zz_xi (by assumption) (by assumption)) (zz_lk1 (by assumption) (by assumption)) | exact zz_lk3 (hd _ _ (by decide) (by decide) (by decide)) (zz_lk3 (hd _ _ (by decide) (by decide) (by decide)) (by assumption)) | (simp only [zz_up]; simp_all; done)) rfl in_X2 11 rfl q1241 (fun _ h => h) (by first | rfl | assumption) dX2_goes_40 ?_
          refine zz_iconst (v := nI 2) C dX2_goes_43 (by decide) ?_
          refine zz_iald C (by first | assumption | exact zz_us | exact zz_lk1 (by assumption) (by assumption) | exact zz_lk3 (hd _ _ (by decide) (by decide) (by decide)) (by assumption) | exact zz_uf (by assumption) (by assumption) | exact zz_lk3 (zz_xi (by assumption) (by assumption)) (zz_lk1 (by assumption) (by assumption)) | exact zz_lk3 (hd _ _ (by decide) (by decide) (by decide)) (zz_lk3 (hd _ _ (by decide) (by decide) (by decide)) (by assumption)) | (simp only [zz_up]; simp_all; done)) rfl (by omega) (by omega) dX2_goes_44 ?_
          first | refine zz_aload_n C dX2_goes_45 rfl ?_ | refine zz_aload_nN C dX2_goes_45 rfl ?_
          refine zz_get C rfl (by first | assumption | exact zz_us | exact zz_lk1 (by assumption) (by assumption) | exact zz_lk3 (hd _ _ (by decide) (by decide) (by decide)) (by assumption) | exact zz_uf (by assumption) (by assumption) | exact zz_lk3 (zz_xi (by assumption) (by assumption)) (zz_lk1 (by assumption) (by assumption)) | exact zz_lk3 (hd _ _ (by decide) (by decide) (by decide)) (zz_lk3 (hd _ _ (by decide) (by decide) (by decide)) (by assumption)) | (simp only [zz_up]; simp_all; done)) rfl in_X2 11 rfl q1241 (fun _ h => h) (by first | rfl | assumption) dX2_goes_46 ?_
          refine zz_iconst (v := nI 3) C dX2_goes_49 (by decide) ?_
          refine zz_iald C (by first | assumption | exact zz_us | exact zz_lk1 (by assumption) (by assumption) | exact zz_lk3 (hd _ _ (by decide) (by decide) (by decide)) (by assumption) | exact zz_uf (by assumption) (by assumption) | exact zz_lk3 (zz_xi (by assumption) (by assumption)) (zz_lk1 (by assumption) (by assumption)) | exact zz_lk3 (hd _ _ (by decide) (by decide) (by decide)) (zz_lk3 (hd _ _ (by decide) (by decide) (by decide)) (by assumption)) | (simp only [zz_up]; simp_all; done)) rfl (by omega) (by omega) dX2_goes_50 ?_
          first | refine zz_aload_n C dX2_goes_51 rfl ?_ | refine zz_aload_nN C dX2_goes_51 rfl ?_
          refine zz_get C rfl (by first | assumption | exact zz_us | exact zz_lk1 (by assumption) (by assumption) | exact zz_lk3 (hd _ _ (by decide) (by decide) (by decide)) (by assumption) | exact zz_uf (by assumption) (by assumption) | exact zz_lk3 (zz_xi (by assumption) (by assumption)) (zz_lk1 (by assumption) (by assumption)) | exact zz_lk3 (hd _ _ (by decide) (by decide) (by decide)) (zz_lk3 (hd _ _ (by decide) (by decide) (by decide)) (by assumption)) | (simp only [zz_up]; simp_all; done)) rfl in_X2 11 rfl q1241 (fun _ h => h) (by first | rfl | assumption) dX2_goes_52 ?_
          refine zz_iconst (v := nI 4) C dX2_goes_55 (by decide) ?_
          refine zz_iald C (by first | assumption | exact zz_us | exact zz_lk1 (by assumption) (by assumption) | exact zz_lk3 (hd _ _ (by decide) (by decide) (by decide)) (by assumption) | exact zz_uf (by assumption) (by assumption) | exact zz_lk3 (zz_xi (by assumption) (by assumption)) (zz_lk1 (by assumption) (by assumption)) | exact zz_lk3 (hd _ _ (by decide) (by decide) (by decide)) (zz_lk3 (hd _ _ (by decide) (by decide) (by decide)) (by assumption)) | (simp only [zz_up]; simp_all; done)) rfl (by omega) (by omega) dX2_goes_56 ?_
          refine zz_callV C zy_X2_does (ct_X2_does nb hfw.2.2.1 hfw.1 no hfw.2.2.2.1 hfw.2.1 hfw.wk hfw.ob hlet hX1) rfl q1295 (by first | assumption | exact zz_us | exact zz_lk1 (by assumption) (by assumption) | exact zz_lk3 (hd _ _ (by decide) (by decide) (by decide)) (by assumption) | exact zz_uf (by assumption) (by assumption) | exact zz_lk3 (zz_xi (by assumption) (by assumption)) (zz_lk1 (by assumption) (by assumption)) | exact zz_lk3 (hd _ _ (by decide) (by decide) (by decide)) (zz_lk3 (hd _ _ (by decide) (by decide) (by decide)) (by assumption)) | (simp only [zz_up]; simp_all; done)) rfl rfl rfl rfl rfl rfl dX2_goes_57 ⟨Nat.le_of_ble_eq_true rfl, Nat.le_of_ble_eq_true rfl⟩ (fun v hz hp => ?_)
          obtain ⟨rfl, hG⟩ := hp
          have hF2 := hG.F (x := x)
          obtain ⟨so2, hX2⟩ := hG.X hX1
          have hX2 : tw_X D hz x ad (tp_row a1 (tp_ord pd len to1 q).1).2 ah hi kp sl sv pd len so2 (nI (tp_ord pd len to1 q).2.1) (zz_b (tp_ord pd len to1 q).2.2) (tp_ord pd len to1 q).1 := hX2
          clear hx h0 h1a h2a h3a h4a h5a h6 h7
          obtain ⟨hx, h0, h1a, h2a, h3a, h4a, h5a, h6, h7, -⟩ := id hX2
          rw [show op_does a1 ((tp_ord pd len to1 q).1 0) ((tp_ord pd len to1 q).1 1) ((tp_ord pd len to1 q).1 2) ((tp_ord pd len to1 q).1 3) ((tp_ord pd len to1 q).1 4) = (tp_row a1 (tp_ord pd len to1 q).1) from rfl]
          refine zz_joinJ (pcJ := 68) (zz_b (decide (0 ≤ (tp_row a1 (tp_ord pd len to1 q).1).1))) [] ?_ ?_
          · rintro z68 rfl
            refine zz_istore C dX2_goes_68 (by decide) ?_
            refine zz_iload_n C dX2_goes_70 rfl ?_
            refine zz_joinI (pcJ := 81) (zz_b (decide (0 ≤ (tp_row a1 (tp_ord pd len to1 q).1).1))) ?_ ?_
            · rintro z81 rfl
              refine zz_iadd C dX2_goes_81 ?_
              refine zz_istore_n C dX2_goes_82 (by decide) ?_
              refine zz_joinI (pcJ := 111) (zz_b (decide (0 ≤ (tp_row a1 (tp_ord pd len to1 q).1).1) && tp_more len (tp_ord pd len to1 q).2)) ?_ ?_
              · rintro z111 rfl
                refine zz_istore_n C dX2_goes_111 (by decide) ?_
                refine zz_iload_n C dX2_goes_112 rfl ?_
                first | refine zz_ifb_eq (tgt := 139) C dX2_goes_113 (by decide) (fun c113 => ?_) (fun c113 => ?_) | refine zz_if_eq (tgt := 139) C dX2_goes_113 (by decide) (fun c113 => ?_) (fun c113 => ?_)
                · refine zz_goto (tgt := 14) C dX2_goes_139 (by decide) ?_
                  first
                  | (simp only [Bool.and_eq_true, decide_eq_true_eq] at c113
                     obtain ⟨hd0, hmo⟩ := c113
                     have eG : tp_doM pd len true (f1 + 1) a1 to1 q = _ := tp_do_m hd0 hmo
                     rw [eG] at hE hE2
                     rw [show decide (0 ≤ (tp_row a1 (tp_ord pd len to1 q).1).1) = true from decide_eq_true hd0]
                     have hge : q.1 ≤ (tp_ord pd len to1 q).2.1 := tp_ord_ge
                     have e1 : (tp_sep pd len (tp_ord pd len to1 q).2).2 = false → (tp_sep pd len (tp_ord pd len to1 q).2).1 = (tp_ord pd len to1 q).2.1 + 1 := tp_sep_f
                     have hk2 : ((!(tp_sep pd len (tp_ord pd len to1 q).2).2) = true → (tp_go pd len f1 (tp_ord pd len to1 q).1 (tp_sep pd len (tp_ord pd len to1 q).2)).2.2 = false) := by
                       intro g
                       have g0 := hko rfl
                       rw [tp_go_s hmo] at g0
                       unfold tp_goM at g0
                       rw [if_pos g] at g0
                       exact g0
                     exact zz_loc2 (ih f1 (!(tp_sep pd len (tp_ord pd len to1 q).2).2) (k + 1) _ _ _ (tp_sep pd len (tp_ord pd len to1 q).2) _ (by omega) (fun g => by omega) (fun g => by
                       have e2 := e1 (by simpa using g)
                       omega) hk2 (show (tp_take pd len 59 59 _).1 ≤ len from tp_take_le (tp_ord_le hq) (by decide)) (wf_row hwq) (by rw [← hE]; omega) hE2 hX3 (hFq.tr (hF1.tr (hF2.tr hF3)))) ⟨rfl, rfl, by show some (Value.int (nI k + 1)) = _; rw [nI_1], rfl, trivial⟩)
                  | (by_cases hd0 : 0 ≤ (tp_row a1 (tp_ord pd len to1 q).1).1
                     · have hmo : tp_more len (tp_ord pd len to1 q).2 = false := by rw [decide_eq_true hd0] at c113; exact c113
                       have eG : tp_doM pd len true (f1 + 1) a1 to1 q = _ := tp_do_e hd0 hmo
                       rw [eG] at hE hE2
                       exact zz_loc2 (ih f1 false (k + 1) _ _ _ (tp_ord pd len to1 q).2 _ (by omega) (fun g => by cases g) (fun g => by cases g) (fun g => by cases g) (tp_ord_le hq) (wf_row hwq) hE hE2 hX2 (hFq.tr (hF1.tr hF2))) ⟨rfl, rfl, by show some (Value.int (nI k + zz_b (decide (0 ≤ (tp_row a1 (tp_ord pd len to1 q).1).1)))) = _; rw [decide_eq_true hd0, ← nI_1]; rfl, by rw [c113]; rfl, trivial⟩
                     · have eG : tp_doM pd len true (f1 + 1) a1 to1 q = _ := tp_do_n hd0
                       rw [eG] at hE hE2
                       exact zz_loc2 (ih f1 false k _ _ _ (tp_ord pd len to1 q).2 _ (by omega) (fun g => by cases g) (fun g => by cases g) (fun g => by cases g) (tp_ord_le hq) (wf_row hwq) hE hE2 hX2 (hFq.tr (hF1.tr hF2))) ⟨rfl, rfl, by show some (Value.int (nI k + zz_b (decide (0 ≤ (tp_row a1 (tp_ord pd len to1 q).1).1)))) = _; rw [decide_eq_false hd0]; exact congrArg (fun z => some (Value.int z)) (Int32.add_zero _), by rw [c113]; rfl, trivial⟩)
                · first | refine zz_aload_n C dX2_goes_116 rfl ?_ | refine zz_aload_nN C dX2_goes_116 rfl ?_
                  refine zz_bipush (v := 59) C dX2_goes_117 (by decide) ?_
                  refine zz_bipush (v := 59) C dX2_goes_119 (by decide) ?_
                  refine zz_callV C zy_X2_takes (ct_X2_takes hlen (tp_ord_le hq) hX2) rfl q1567 (by first | assumption | exact zz_us | exact zz_lk1 (by assumption) (by assumption) | exact zz_lk3 (hd _ _ (by decide) (by decide) (by decide)) (by assumption) | exact zz_uf (by assumption) (by assumption) | exact zz_lk3 (zz_xi (by assumption) (by assumption)) (zz_lk1 (by assumption) (by assumption)) | exact zz_lk3 (hd _ _ (by decide) (by decide) (by decide)) (zz_lk3 (hd _ _ (by decide) (by decide) (by decide)) (by assumption)) | (simp only [zz_up]; simp_all; done)) rfl rfl rfl rfl rfl rfl dX2_goes_121 ⟨Nat.le_of_ble_eq_true rfl, Nat.le_of_ble_eq_true rfl⟩ (fun v hz hp => ?_)
                  obtain ⟨rfl, hX3, hF3⟩ := hp
                  have hX3 : tw_X D hz x ad (tp_row a1 (tp_ord pd len to1 q).1).2 ah hi kp sl sv pd len so2 (nI (tp_sep pd len (tp_ord pd len to1 q).2).1) (zz_b (tp_sep pd len (tp_ord pd len to1 q).2).2) (tp_ord pd len to1 q).1 := hX3
                  clear hx h0 h1a h2a h3a h4a h5a h6 h7
                  obtain ⟨hx, h0, h1a, h2a, h3a, h4a, h5a, h6, h7, -⟩ := id hX3
                  refine zz_istore C dX2_goes_124 (by decide) ?_
                  refine zz_joinI (pcJ := 138) (zz_b (!(tp_sep pd len (tp_ord pd len to1 q).2).2)) ?_ ?_
                  · rintro z138 rfl
                    refine zz_istore_n C dX2_goes_138 (by decide) ?_
                    refine zz_goto (tgt := 14) C dX2_goes_139 (by decide) ?_
                    first
                    | (simp only [Bool.and_eq_true, decide_eq_true_eq] at c113
                       obtain ⟨hd0, hmo⟩ := c113
                       have eG : tp_doM pd len true (f1 + 1) a1 to1 q = _ := tp_do_m hd0 hmo
                       rw [eG] at hE hE2
                       rw [show decide (0 ≤ (tp_row a1 (tp_ord pd len to1 q).1).1) = true from decide_eq_true hd0]
                       have hge : q.1 ≤ (tp_ord pd len to1 q).2.1 := tp_ord_ge
                       have e1 : (tp_sep pd len (tp_ord pd len to1 q).2).2 = false → (tp_sep pd len (tp_ord pd len to1 q).2).1 = (tp_ord pd len to1 q).2.1 + 1 := tp_sep_f
                       have hk2 : ((!(tp_sep pd len (tp_ord pd len to1 q).2).2) = true → (tp_go pd len f1 (tp_ord pd len to1 q).1 (tp_sep pd len (tp_ord pd len to1 q).2)).2.2 = false) := by
                         intro g
                         have g0 := hko rfl
                         rw [tp_go_s hmo] at g0
                         unfold tp_goM at g0
                         rw [if_pos g] at g0
                         exact g0
                       exact zz_loc2 (ih f1 (!(tp_sep pd len (tp_ord pd len to1 q).2).2) (k + 1) _ _ _ (tp_sep pd len (tp_ord pd len to1 q).2) _ (by omega) (fun g => by omega) (fun g => by
                         have e2 := e1 (by simpa using g)
                         omega) hk2 (show (tp_take pd len 59 59 _).1 ≤ len from tp_take_le (tp_ord_le hq) (by decide)) (wf_row hwq) (by rw [← hE]; omega) hE2 hX3 (hFq.tr (hF1.tr (hF2.tr hF3)))) ⟨rfl, rfl, by show some (Value.int (nI k + 1)) = _; rw [nI_1], rfl, trivial⟩)
                    | (by_cases hd0 : 0 ≤ (tp_row a1 (tp_ord pd len to1 q).1).1
                       · have hmo : tp_more len (tp_ord pd len to1 q).2 = false := by rw [decide_eq_true hd0] at c113; exact c113
                         have eG : tp_doM pd len true (f1 + 1) a1 to1 q = _ := tp_do_e hd0 hmo
                         rw [eG] at hE hE2
                         exact zz_loc2 (ih f1 false (k + 1) _ _ _ (tp_ord pd len to1 q).2 _ (by omega) (fun g => by cases g) (fun g => by cases g) (fun g => by cases g) (tp_ord_le hq) (wf_row hwq) hE hE2 hX2 (hFq.tr (hF1.tr hF2))) ⟨rfl, rfl, by show some (Value.int (nI k + zz_b (decide (0 ≤ (tp_row a1 (tp_ord pd len to1 q).1).1)))) = _; rw [decide_eq_true hd0, ← nI_1]; rfl, by rw [c113]; rfl, trivial⟩
                       · have eG : tp_doM pd len true (f1 + 1) a1 to1 q = _ := tp_do_n hd0
                         rw [eG] at hE hE2
                         exact zz_loc2 (ih f1 false k _ _ _ (tp_ord pd len to1 q).2 _ (by omega) (fun g => by cases g) (fun g => by cases g) (fun g => by cases g) (tp_ord_le hq) (wf_row hwq) hE hE2 hX2 (hFq.tr (hF1.tr hF2))) ⟨rfl, rfl, by show some (Value.int (nI k + zz_b (decide (0 ≤ (tp_row a1 (tp_ord pd len to1 q).1).1)))) = _; rw [decide_eq_false hd0]; exact congrArg (fun z => some (Value.int z)) (Int32.add_zero _), by rw [c113]; rfl, trivial⟩)
                  · intro J138
                    first | refine zz_aload_n C dX2_goes_126 rfl ?_ | refine zz_aload_nN C dX2_goes_126 rfl ?_
                    refine zz_get C rfl (by first | assumption | exact zz_us | exact zz_lk1 (by assumption) (by assumption) | exact zz_lk3 (hd _ _ (by decide) (by decide) (by decide)) (by assumption) | exact zz_uf (by assumption) (by assumption) | exact zz_lk3 (zz_xi (by assumption) (by assumption)) (zz_lk1 (by assumption) (by assumption)) | exact zz_lk3 (hd _ _ (by decide) (by decide) (by decide)) (zz_lk3 (hd _ _ (by decide) (by decide) (by decide)) (by assumption)) | (simp only [zz_up]; simp_all; done)) rfl in_X2 10 rfl q1240 (fun _ h => h) (by first | rfl | assumption) dX2_goes_127 ?_
                    first | refine zz_ifb_ne (tgt := 137) C dX2_goes_130 (by decide) (fun c130 => ?_) (fun c130 => ?_) | refine zz_if_ne (tgt := 137) C dX2_goes_130 (by decide) (fun c130 => ?_) (fun c130 => ?_)
                    · refine zz_iconst (v := 0) C dX2_goes_137 (by decide) ?_
                      exact J138 _ (by first | (rw [show (tp_sep pd len (tp_ord pd len to1 q).2).2 = true from c130]; rfl) | (rw [show (tp_sep pd len (tp_ord pd len to1 q).2).2 = false from c130]; rfl))
                    · refine zz_iconst (v := 1) C dX2_goes_133 (by decide) ?_
                      refine zz_goto (tgt := 138) C dX2_goes_134 (by decide) ?_
                      exact J138 _ (by first | (rw [show (tp_sep pd len (tp_ord pd len to1 q).2).2 = true from c130]; rfl) | (rw [show (tp_sep pd len (tp_ord pd len to1 q).2).2 = false from c130]; rfl))
              · intro J111
                refine zz_iload C dX2_goes_83 rfl ?_
                first | refine zz_ifb_eq (tgt := 110) C dX2_goes_85 (by decide) (fun c85 => ?_) (fun c85 => ?_) | refine zz_if_eq (tgt := 110) C dX2_goes_85 (by decide) (fun c85 => ?_) (fun c85 => ?_)
                · refine zz_iconst (v := 0) C dX2_goes_110 (by decide) ?_
                  exact J111 _ (by
                        first
                        | (rw [c85]; rfl)
                        | (rw [c85, show tp_more len (tp_ord pd len to1 q).2 = false from by unfold tp_more; rw [show (tp_ord pd len to1 q).2.2 = true from c92]; rfl]; rfl)
                        | (rw [c85, show tp_more len (tp_ord pd len to1 q).2 = true from by unfold tp_more; rw [show (tp_ord pd len to1 q).2.2 = false from c92, decide_eq_true hpl]; rfl]; rfl)
                        | (rw [c85, show tp_more len (tp_ord pd len to1 q).2 = false from by unfold tp_more; rw [show (tp_ord pd len to1 q).2.2 = false from c92, decide_eq_false hpl]; rfl]; rfl))
                · first | refine zz_aload_n C dX2_goes_88 rfl ?_ | refine zz_aload_nN C dX2_goes_88 rfl ?_
                  refine zz_get C rfl (by first | assumption | exact zz_us | exact zz_lk1 (by assumption) (by assumption) | exact zz_lk3 (hd _ _ (by decide) (by decide) (by decide)) (by assumption) | exact zz_uf (by assumption) (by assumption) | exact zz_lk3 (zz_xi (by assumption) (by assumption)) (zz_lk1 (by assumption) (by assumption)) | exact zz_lk3 (hd _ _ (by decide) (by decide) (by decide)) (zz_lk3 (hd _ _ (by decide) (by decide) (by decide)) (by assumption)) | (simp only [zz_up]; simp_all; done)) rfl in_X2 10 rfl q1240 (fun _ h => h) (by first | rfl | assumption) dX2_goes_89 ?_
                  first | refine zz_ifb_ne (tgt := 110) C dX2_goes_92 (by decide) (fun c92 => ?_) (fun c92 => ?_) | refine zz_if_ne (tgt := 110) C dX2_goes_92 (by decide) (fun c92 => ?_) (fun c92 => ?_)
                  · refine zz_iconst (v := 0) C dX2_goes_110 (by decide) ?_
                    exact J111 _ (by
                          first
                          | (rw [c85]; rfl)
                          | (rw [c85, show tp_more len (tp_ord pd len to1 q).2 = false from by unfold tp_more; rw [show (tp_ord pd len to1 q).2.2 = true from c92]; rfl]; rfl)
                          | (rw [c85, show tp_more len (tp_ord pd len to1 q).2 = true from by unfold tp_more; rw [show (tp_ord pd len to1 q).2.2 = false from c92, decide_eq_true hpl]; rfl]; rfl)
                          | (rw [c85, show tp_more len (tp_ord pd len to1 q).2 = false from by unfold tp_more; rw [show (tp_ord pd len to1 q).2.2 = false from c92, decide_eq_false hpl]; rfl]; rfl))
                  · first | refine zz_aload_n C dX2_goes_95 rfl ?_ | refine zz_aload_nN C dX2_goes_95 rfl ?_
                    refine zz_get C rfl (by first | assumption | exact zz_us | exact zz_lk1 (by assumption) (by assumption) | exact zz_lk3 (hd _ _ (by decide) (by decide) (by decide)) (by assumption) | exact zz_uf (by assumption) (by assumption) | exact zz_lk3 (zz_xi (by assumption) (by assumption)) (zz_lk1 (by assumption) (by assumption)) | exact zz_lk3 (hd _ _ (by decide) (by decide) (by decide)) (zz_lk3 (hd _ _ (by decide) (by decide) (by decide)) (by assumption)) | (simp only [zz_up]; simp_all; done)) rfl in_X2 9 rfl q1239 (fun _ h => h) (by first | rfl | assumption) dX2_goes_96 ?_
                    first | refine zz_aload_n C dX2_goes_99 rfl ?_ | refine zz_aload_nN C dX2_goes_99 rfl ?_
                    refine zz_get C rfl (by first | assumption | exact zz_us | exact zz_lk1 (by assumption) (by assumption) | exact zz_lk3 (hd _ _ (by decide) (by decide) (by decide)) (by assumption) | exact zz_uf (by assumption) (by assumption) | exact zz_lk3 (zz_xi (by assumption) (by assumption)) (zz_lk1 (by assumption) (by assumption)) | exact zz_lk3 (hd _ _ (by decide) (by decide) (by decide)) (zz_lk3 (hd _ _ (by decide) (by decide) (by decide)) (by assumption)) | (simp only [zz_up]; simp_all; done)) rfl in_X2 7 rfl q1237 (fun _ h => h) (by first | rfl | assumption) dX2_goes_100 ?_
                    refine zz_icmp_ge (tgt := 110) C dX2_goes_103 (by decide) (fun c103 => ?_) (fun c103 => ?_)
                    · have hpl : ¬ (tp_ord pd len to1 q).2.1 < len := by
                        have hle := tp_ord_le (pd := pd) (to := to1) hq
                        have := (nI_leI (by omega) (by omega)).mp c103
                        omega
                      refine zz_iconst (v := 0) C dX2_goes_110 (by decide) ?_
                      exact J111 _ (by
                            first
                            | (rw [c85]; rfl)
                            | (rw [c85, show tp_more len (tp_ord pd len to1 q).2 = false from by unfold tp_more; rw [show (tp_ord pd len to1 q).2.2 = true from c92]; rfl]; rfl)
                            | (rw [c85, show tp_more len (tp_ord pd len to1 q).2 = true from by unfold tp_more; rw [show (tp_ord pd len to1 q).2.2 = false from c92, decide_eq_true hpl]; rfl]; rfl)
                            | (rw [c85, show tp_more len (tp_ord pd len to1 q).2 = false from by unfold tp_more; rw [show (tp_ord pd len to1 q).2.2 = false from c92, decide_eq_false hpl]; rfl]; rfl))
                    · have hle := tp_ord_le (pd := pd) (to := to1) hq
                      have hpl : (tp_ord pd len to1 q).2.1 < len := Nat.not_le.mp (fun g => c103 (nI_le g (by omega)))
                      refine zz_iconst (v := 1) C dX2_goes_106 (by decide) ?_
                      refine zz_goto (tgt := 111) C dX2_goes_107 (by decide) ?_
                      exact J111 _ (by
                            first
                            | (rw [c85]; rfl)
                            | (rw [c85, show tp_more len (tp_ord pd len to1 q).2 = false from by unfold tp_more; rw [show (tp_ord pd len to1 q).2.2 = true from c92]; rfl]; rfl)
                            | (rw [c85, show tp_more len (tp_ord pd len to1 q).2 = true from by unfold tp_more; rw [show (tp_ord pd len to1 q).2.2 = false from c92, decide_eq_true hpl]; rfl]; rfl)
                            | (rw [c85, show tp_more len (tp_ord pd len to1 q).2 = false from by unfold tp_more; rw [show (tp_ord pd len to1 q).2.2 = false from c92, decide_eq_false hpl]; rfl]; rfl))
            · intro J81
              refine zz_iload C dX2_goes_71 rfl ?_
              first | refine zz_ifb_eq (tgt := 80) C dX2_goes_73 (by decide) (fun c73 => ?_) (fun c73 => ?_) | refine zz_if_eq (tgt := 80) C dX2_goes_73 (by decide) (fun c73 => ?_) (fun c73 => ?_)
              · refine zz_iconst (v := 0) C dX2_goes_80 (by decide) ?_
                exact J81 _ (by rw [c73]; rfl)
              · refine zz_iconst (v := 1) C dX2_goes_76 (by decide) ?_
                refine zz_goto (tgt := 81) C dX2_goes_77 (by decide) ?_
                exact J81 _ (by rw [c73]; rfl)
          · intro J68
            refine zz_if_lt (tgt := 67) C dX2_goes_60 (by decide) (fun c60 => ?_) (fun c60 => ?_)
            · refine zz_iconst (v := 0) C dX2_goes_67 (by decide) ?_
              exact J68 _ (by first | exact zz_bt (decide_eq_true (Int32.not_lt.mp ‹_›)) | exact zz_bf (decide_eq_false (Int32.not_le.mpr ‹_›)))
            · refine zz_iconst (v := 1) C dX2_goes_63 (by decide) ?_
              refine zz_goto (tgt := 68) C dX2_goes_64 (by decide) ?_
              exact J68 _ (by first | exact zz_bt (decide_eq_true (Int32.not_lt.mp ‹_›)) | exact zz_bf (decide_eq_false (Int32.not_le.mpr ‹_›)))
  exact zz_loc2 (L14 82 81 true 0 a so to (0, false) _ (by omega) (fun _ => by omega) (fun _ => by show len < 0 + 81; omega) (fun _ => hok) (Nat.zero_le _) hwf (Nat.zero_add _) rfl hX0 hF0) ⟨rfl, rfl, rfl, rfl, trivial⟩

theorem ct_X2_fault {l : Launch} {D : va_G} {b0 : Nat} {h : zz_H} {x : Nat} {ad : Nat → Nat} {a hi : Nat → Int32} {kp : Nat} {sl sv pd : Nat → Int32} {len : Nat} (hlen : len ≤ 80) (hS : tw_S D h x ad a hi kp sl sv pd len)  : zz_Ct l D b0 yX2_fault cX2_fault 2 (some .int) 8 189 0 0 [.ref x] h (fun v h' => v = some (.int (if (tp_read pd len).2 = true then nI (tp_read pd len).1 else -6)) ∧ tw_S D h' x ad a hi kp sl sv pd len ∧ tw_F x ad h h') := by
  refine zz_Ct.of zy_X2_fault.1 rfl ?_
  intro p e s m below meth c C
  obtain ⟨ah, so, pos, wr, to, hX⟩ := hS
  have hM := hX.M
  obtain ⟨hx, h0, h1a, h2a, h3a, h4a, h5a, h6, h7, hd⟩ := id hX
  first | refine zz_aload_n C dX2_fault_0 rfl ?_ | refine zz_aload_nN C dX2_fault_0 rfl ?_
  refine zz_iconst (v := 0) C dX2_fault_1 (by decide) ?_
  refine zz_callV C zy_X2_goes (ct_X2_goes0 hlen hX) rfl q1555 (by first | assumption | exact zz_us | exact zz_lk1 (by assumption) (by assumption) | exact zz_lk3 (hd _ _ (by decide) (by decide) (by decide)) (by assumption) | exact zz_uf (by assumption) (by assumption) | exact zz_lk3 (zz_xi (by assumption) (by assumption)) (zz_lk1 (by assumption) (by assumption)) | exact zz_lk3 (hd _ _ (by decide) (by decide) (by decide)) (zz_lk3 (hd _ _ (by decide) (by decide) (by decide)) (by assumption)) | (simp only [zz_up]; simp_all; done)) rfl rfl rfl rfl rfl rfl dX2_fault_2 ⟨Nat.le_of_ble_eq_true rfl, Nat.le_of_ble_eq_true rfl⟩ (fun v hz hp => ?_)
  obtain ⟨z, rfl, hX1, hF1⟩ := hp
  clear hx h0 h1a h2a h3a h4a h5a h6 h7
  obtain ⟨hx, h0, h1a, h2a, h3a, h4a, h5a, h6, h7, -⟩ := id hX1
  have eR : (tp_go pd len 81 to (0, false)).2 = tp_read pd len := tp_go_i 81 _ _ _
  rw [eR] at hx hX1
  refine zz_istore_n C dX2_fault_5 (by decide) ?_
  first | refine zz_aload_n C dX2_fault_6 rfl ?_ | refine zz_aload_nN C dX2_fault_6 rfl ?_
  refine zz_get C rfl (by first | assumption | exact zz_us | exact zz_lk1 (by assumption) (by assumption) | exact zz_lk3 (hd _ _ (by decide) (by decide) (by decide)) (by assumption) | exact zz_uf (by assumption) (by assumption) | exact zz_lk3 (zz_xi (by assumption) (by assumption)) (zz_lk1 (by assumption) (by assumption)) | exact zz_lk3 (hd _ _ (by decide) (by decide) (by decide)) (zz_lk3 (hd _ _ (by decide) (by decide) (by decide)) (by assumption)) | (simp only [zz_up]; simp_all; done)) rfl in_X2 10 rfl q1240 (fun _ h => h) (by first | rfl | assumption) dX2_fault_7 ?_
  first | refine zz_ifb_eq (tgt := 20) C dX2_fault_10 (by decide) (fun c10 => ?_) (fun c10 => ?_) | refine zz_if_eq (tgt := 20) C dX2_fault_10 (by decide) (fun c10 => ?_) (fun c10 => ?_)
  · refine zz_bipush (v := (-6)) C dX2_fault_20 (by decide) ?_
    refine zz_iret C dX2_fault_22 rfl rfl ?_
    exact ⟨by first | rw [if_pos c10] | rw [if_neg (by rw [c10]; decide)], hX1.S, hF1⟩
  · first | refine zz_aload_n C dX2_fault_13 rfl ?_ | refine zz_aload_nN C dX2_fault_13 rfl ?_
    refine zz_get C rfl (by first | assumption | exact zz_us | exact zz_lk1 (by assumption) (by assumption) | exact zz_lk3 (hd _ _ (by decide) (by decide) (by decide)) (by assumption) | exact zz_uf (by assumption) (by assumption) | exact zz_lk3 (zz_xi (by assumption) (by assumption)) (zz_lk1 (by assumption) (by assumption)) | exact zz_lk3 (hd _ _ (by decide) (by decide) (by decide)) (zz_lk3 (hd _ _ (by decide) (by decide) (by decide)) (by assumption)) | (simp only [zz_up]; simp_all; done)) rfl in_X2 9 rfl q1239 (fun _ h => h) (by first | rfl | assumption) dX2_fault_14 ?_
    refine zz_goto (tgt := 22) C dX2_fault_17 (by decide) ?_
    refine zz_iret C dX2_fault_22 rfl rfl ?_
    exact ⟨by first | rw [if_pos c10] | rw [if_neg (by rw [c10]; decide)], hX1.S, hF1⟩

theorem ct_X2_carryOut {l : Launch} {D : va_G} {b0 : Nat} {h : zz_H} {x : Nat} {ad : Nat → Nat} {a hi : Nat → Int32} {kp : Nat} {sl sv pd : Nat → Int32} {len : Nat} (hkp : kp ≤ 6) (hlen : len ≤ 80) (hwf : wf a) (hS : tw_S D h x ad a hi kp sl sv pd len)  : zz_Ct l D b0 yX2_carryOut cX2_carryOut 3 (some .int) 8 189 0 0 [.ref x] h (fun v h' => ∃ (hi' : Nat → Int32) (kp' : Nat), v = some (.int (if (tp_read pd len).2 = true then -3 else nI (tp_done pd len a).1)) ∧ tw_S D h' x ad (if (tp_read pd len).2 = true then a else (tp_done pd len a).2) hi' kp' sl sv pd (if (tp_read pd len).2 = true then len else 0) ∧ tw_F x ad h h' ∧ qa_rc (!(tp_read pd len).2) hi kp a hi' kp') := by
  refine zz_Ct.of zy_X2_carryOut.1 rfl ?_
  intro p e s m below meth c C
  obtain ⟨ah, so, pos, wr, to, hX⟩ := hS
  have hM := hX.M
  obtain ⟨hx, h0, h1a, h2a, h3a, h4a, h5a, h6, h7, hd⟩ := id hX
  first | refine zz_aload_n C dX2_carryOut_0 rfl ?_ | refine zz_aload_nN C dX2_carryOut_0 rfl ?_
  refine zz_iconst (v := 0) C dX2_carryOut_1 (by decide) ?_
  refine zz_callV C zy_X2_goes (ct_X2_goes0 hlen hX) rfl q1555 (by first | assumption | exact zz_us | exact zz_lk1 (by assumption) (by assumption) | exact zz_lk3 (hd _ _ (by decide) (by decide) (by decide)) (by assumption) | exact zz_uf (by assumption) (by assumption) | exact zz_lk3 (zz_xi (by assumption) (by assumption)) (zz_lk1 (by assumption) (by assumption)) | exact zz_lk3 (hd _ _ (by decide) (by decide) (by decide)) (zz_lk3 (hd _ _ (by decide) (by decide) (by decide)) (by assumption)) | (simp only [zz_up]; simp_all; done)) rfl rfl rfl rfl rfl rfl dX2_carryOut_2 ⟨Nat.le_of_ble_eq_true rfl, Nat.le_of_ble_eq_true rfl⟩ (fun v hz hp => ?_)
  obtain ⟨z, rfl, hX1, hF1⟩ := hp
  clear hx h0 h1a h2a h3a h4a h5a h6 h7
  obtain ⟨hx, h0, h1a, h2a, h3a, h4a, h5a, h6, h7, -⟩ := id hX1
  have eR : (tp_go pd len 81 to (0, false)).2 = tp_read pd len := tp_go_i 81 _ _ _
  rw [eR] at hx
  refine zz_istore_n C dX2_carryOut_5 (by decide) ?_
  first | refine zz_aload_n C dX2_carryOut_6 rfl ?_ | refine zz_aload_nN C dX2_carryOut_6 rfl ?_
  refine zz_get C rfl (by first | assumption | exact zz_us | exact zz_lk1 (by assumption) (by assumption) | exact zz_lk3 (hd _ _ (by decide) (by decide) (by decide)) (by assumption) | exact zz_uf (by assumption) (by assumption) | exact zz_lk3 (zz_xi (by assumption) (by assumption)) (zz_lk1 (by assumption) (by assumption)) | exact zz_lk3 (hd _ _ (by decide) (by decide) (by decide)) (zz_lk3 (hd _ _ (by decide) (by decide) (by decide)) (by assumption)) | (simp only [zz_up]; simp_all; done)) rfl in_X2 10 rfl q1240 (fun _ h => h) (by first | rfl | assumption) dX2_carryOut_7 ?_
  first | refine zz_ifb_eq (tgt := 16) C dX2_carryOut_10 (by decide) (fun c10 => ?_) (fun c10 => ?_) | refine zz_if_eq (tgt := 16) C dX2_carryOut_10 (by decide) (fun c10 => ?_) (fun c10 => ?_)
  · first | refine zz_aload_n C dX2_carryOut_16 rfl ?_ | refine zz_aload_nN C dX2_carryOut_16 rfl ?_
    refine zz_callV C zy_X2_looks (ct_X2_looks hX1) rfl q1279 hX1.1 rfl rfl rfl rfl rfl rfl dX2_carryOut_17 ⟨Nat.le_of_ble_eq_true rfl, Nat.le_of_ble_eq_true rfl⟩ (fun v hz hp => ?_)
    obtain ⟨g, ⟨rfl, hg⟩, ez⟩ := hp
    have hX2 := hX1.u1 g
    have hF2 : tw_F x ad _ _ := hF1.tr (tw_F.up (e := .inl (D.1 100, 324, .inl g)) 1 (by decide))
    rw [← ez] at hX2 hF2
    have hx1 := hX2.1
    first | refine zz_aload_n C dX2_carryOut_20 rfl ?_ | refine zz_aload_nN C dX2_carryOut_20 rfl ?_
    refine zz_callV C zy_X2_records (ct_X2_records hkp hX2) rfl q1283 hx1 rfl rfl rfl rfl rfl rfl dX2_carryOut_21 ⟨Nat.le_of_ble_eq_true rfl, Nat.le_of_ble_eq_true rfl⟩ (fun v hz hp => ?_)
    obtain ⟨hi', kp', rfl, hX3, hF3, hR3⟩ := hp
    clear hx h0 h1a h2a h3a h4a h5a h6 h7 hx1
    obtain ⟨hx, h0, h1a, h2a, h3a, h4a, h5a, h6, h7, -⟩ := id hX3
    have hok : (tp_go pd len 81 (tp_go pd len 81 to (0, false)).1 (0, false)).2.2 = false := by rw [tp_go_i 81 _ to, eR]; exact c10
    have eD : tp_do pd len 81 a (tp_go pd len 81 to (0, false)).1 (0, false) = tp_done pd len a := tp_do_i 81 _ _ _ _
    first | refine zz_aload_n C dX2_carryOut_24 rfl ?_ | refine zz_aload_nN C dX2_carryOut_24 rfl ?_
    refine zz_iconst (v := 1) C dX2_carryOut_25 (by decide) ?_
    refine zz_callV C zy_X2_goes (ct_X2_goes1 hlen hwf hok hX3) rfl q1555 hx rfl rfl rfl rfl rfl rfl dX2_carryOut_26 ⟨Nat.le_of_ble_eq_true rfl, Nat.le_of_ble_eq_true rfl⟩ (fun v hz hp => ?_)
    obtain ⟨so', to', pos', wr', rfl, hX4, hF4⟩ := hp
    clear hx h0 h1a h2a h3a h4a h5a h6 h7
    obtain ⟨hx, h0, h1a, h2a, h3a, h4a, h5a, h6, h7, -⟩ := id hX4
    rw [eD] at hX4
    rw [eD]
    refine zz_istore_n C dX2_carryOut_29 (by decide) ?_
    first | refine zz_aload_n C dX2_carryOut_30 rfl ?_ | refine zz_aload_nN C dX2_carryOut_30 rfl ?_
    refine zz_iconst (v := 0) C dX2_carryOut_31 (by decide) ?_
    refine zz_put C rfl (by first | assumption | exact zz_us | exact zz_lk1 (by assumption) (by assumption) | exact zz_lk3 (hd _ _ (by decide) (by decide) (by decide)) (by assumption) | exact zz_uf (by assumption) (by assumption) | exact zz_lk3 (zz_xi (by assumption) (by assumption)) (zz_lk1 (by assumption) (by assumption)) | exact zz_lk3 (hd _ _ (by decide) (by decide) (by decide)) (zz_lk3 (hd _ _ (by decide) (by decide) (by decide)) (by assumption)) | (simp only [zz_up]; simp_all; done)) rfl in_X2 tyX2 tyX2_ok nmX2 7 rfl q1237 (fun _ h => h) rfl (tyX2_ok 7 (by decide)) (by first | rfl | exact zz_narZ (by first | exact zz_b01 _ | assumption | decide)) rfl (Nat.le_of_ble_eq_true rfl) dX2_carryOut_32 ?_
    refine zz_iload_n C dX2_carryOut_35 rfl ?_
    refine zz_iret C dX2_carryOut_36 rfl rfl ?_
    first
    | (refine ⟨hi, kp, by rw [if_pos c10], ?_, hF1, qa_rc_f (by rw [c10]; rfl)⟩; rw [if_pos c10, if_pos c10]; exact hX1.S)
    | (have c11 : ¬ (tp_read pd len).2 = true := by rw [c10]; decide
       refine ⟨hi', kp', by rw [if_neg c11], ?_, hF2.tr (hF3.tr (hF4.tr tw_F.ux)), qa_rc_t (by rw [c10]; rfl) (hR3.of hg)⟩; rw [if_neg c11, if_neg c11]; exact (hX4.fx kp' 0 pos' wr').S)
  · refine zz_bipush (v := (-3)) C dX2_carryOut_13 (by decide) ?_
    refine zz_iret C dX2_carryOut_15 rfl rfl ?_
    first
    | (refine ⟨hi, kp, by rw [if_pos c10], ?_, hF1, qa_rc_f (by rw [c10]; rfl)⟩; rw [if_pos c10, if_pos c10]; exact hX1.S)
    | (have c11 : ¬ (tp_read pd len).2 = true := by rw [c10]; decide
       refine ⟨hi', kp', by rw [if_neg c11], ?_, hF2.tr (hF3.tr (hF4.tr tw_F.ux)), qa_rc_t (by rw [c10]; rfl) (hR3.of hg)⟩; rw [if_neg c11, if_neg c11]; exact (hX4.fx kp' 0 pos' wr').S)

