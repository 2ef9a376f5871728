/-! the twin: through its pad -/
theorem ct_X2_goes0 {l : Launch} {D : va_G} {b0 : Nat} {h : zz_H} {x : Nat} {ad : Nat → Nat} {a ah hi : Nat → Int32} {kp : Nat} {sl sv pd : Nat → Int32} {len : Nat} {so to : Nat → Int32} {pos wr : Int32} (hlen : len ≤ 80) (hX : tw_X D h x ad a ah hi kp sl sv pd len so pos wr to)  : zz_Ct l D b0 yX2_goes cX2_goes 6 (some .int) 5 113 0 0 [.ref x, .int 0] h (fun v h' => ∃ z : Int32, v = some (.int z) ∧ tw_X D h' x ad a ah hi kp sl sv pd len so (nI (tp_go pd len 81 to (0, false)).2.1) (zz_b (tp_go pd len 81 to (0, false)).2.2) (tp_go pd len 81 to (0, false)).1 ∧ tw_F x ad h h') := by
  refine zz_Ct.of zy_X2_goes.1 rfl ?_
  intro p e s m below meth c C
  obtain ⟨hx, h0, h1a, h2a, h3a, h4a, h5a, h6, h7, hd⟩ := id hX
  first | refine zz_aload_n C dX2_goes_0 rfl ?_ | refine zz_aload_nN C dX2_goes_0 rfl ?_
  refine zz_iconst (v := 0) C dX2_goes_1 (by decide) ?_
  refine zz_put C rfl (by first | assumption | exact zz_us | exact zz_lk1 (by assumption) (by assumption) | exact zz_lk3 (hd _ _ (by decide) (by decide) (by decide)) (by assumption) | exact zz_uf (by assumption) (by assumption) | exact zz_lk3 (zz_xi (by assumption) (by assumption)) (zz_lk1 (by assumption) (by assumption)) | exact zz_lk3 (hd _ _ (by decide) (by decide) (by decide)) (zz_lk3 (hd _ _ (by decide) (by decide) (by decide)) (by assumption)) | (simp only [zz_up]; simp_all; done)) rfl in_X2 tyX2 tyX2_ok nmX2 9 rfl q1239 (fun _ h => h) rfl (tyX2_ok 9 (by decide)) (by first | rfl | exact zz_narZ (by first | exact zz_b01 _ | assumption | decide)) rfl (Nat.le_of_ble_eq_true rfl) dX2_goes_2 ?_
  first | refine zz_aload_n C dX2_goes_5 rfl ?_ | refine zz_aload_nN C dX2_goes_5 rfl ?_
  refine zz_iconst (v := 0) C dX2_goes_6 (by decide) ?_
  refine zz_put C rfl (by first | assumption | exact zz_us | exact zz_lk1 (by assumption) (by assumption) | exact zz_lk3 (hd _ _ (by decide) (by decide) (by decide)) (by assumption) | exact zz_uf (by assumption) (by assumption) | exact zz_lk3 (zz_xi (by assumption) (by assumption)) (zz_lk1 (by assumption) (by assumption)) | exact zz_lk3 (hd _ _ (by decide) (by decide) (by decide)) (zz_lk3 (hd _ _ (by decide) (by decide) (by decide)) (by assumption)) | (simp only [zz_up]; simp_all; done)) rfl in_X2 tyX2 tyX2_ok nmX2 10 rfl q1240 (fun _ h => h) rfl (tyX2_ok 10 (by decide)) (by first | rfl | exact zz_narZ (by first | exact zz_b01 _ | assumption | decide)) (by first | exact zz_fitZ _ | rfl | exact zz_fit01 (by assumption)) (Nat.le_of_ble_eq_true rfl) dX2_goes_7 ?_
  rw [zz_upup]
  refine zz_gen (P := fun h' => tw_X D h' x ad a ah hi kp sl sv pd len so (nI ((0 : Nat), false).1) (zz_b ((0 : Nat), false).2) to ∧ tw_F x ad h h') ⟨hX.fx kp len (nI 0) (zz_b false), tw_F.ux⟩ (fun hz hP => ?_)
  obtain ⟨hX0, hF0⟩ := hP
  clear hx h0 h1a h2a h3a h4a h5a h6 h7
  obtain ⟨hx, h0, h1a, h2a, h3a, h4a, h5a, h6, h7, -⟩ := id hX0
  refine zz_iconst (v := 0) C dX2_goes_10 (by decide) ?_
  refine zz_istore_n C dX2_goes_11 (by decide) ?_
  refine zz_iconst (v := 1) C dX2_goes_12 (by decide) ?_
  refine zz_istore_n C dX2_goes_13 (by decide) ?_
  have L14 : ∀ (n : Nat) (f : Nat) (mo : Bool) (z : Int32) (to1 : Nat → Int32) (q : Nat × Bool) (hz : zz_H), 1 ≤ n → (mo = true → f + 1 ≤ n) → (mo = true → len < q.1 + f) → q.1 ≤ len → tp_goM pd len mo f to1 q = (tp_go pd len 81 to (0, false)) → tw_X D hz x ad a ah hi kp sl sv pd len so (nI q.1) (zz_b q.2) to1 → tw_F x ad h hz → zz_V D b0 6 p l e ({ frames := 5, cells := 0, slots := 0, locals := 113 } : Jvm.Room) s m ([.ref x, .int 0] : List Value).toArray below meth c (MQ below (zz_Q D b0 (fun v h' => ∃ z : Int32, v = some (.int z) ∧ tw_X D h' x ad a ah hi kp sl sv pd len so (nI (tp_go pd len 81 to (0, false)).2.1) (zz_b (tp_go pd len 81 to (0, false)).2.2) (tp_go pd len 81 to (0, false)).1 ∧ tw_F x ad h h')) ([.ref x, .int 0] : List Value).toArray s 0 0 (fun q => b0 ≤ q)) 0 0 hz [(0, .ref x), (1, .int 0), (2, .int z), (3, .int (zz_b mo))] 14 [] := by
    intro n
    induction n with
    | zero =>
      intro f mo z to1 q hz hn0 hnf hlf hq hE hXq hFq
      exact absurd hn0 (by omega)
    | succ n ih =>
      intro f mo z to1 q hz hn0 hnf hlf hq hE hXq hFq
      clear hx h0 h1a h2a h3a h4a h5a h6 h7
      obtain ⟨hx, h0, h1a, h2a, h3a, h4a, h5a, h6, h7, -⟩ := id hXq
      refine zz_iload_n C dX2_goes_14 rfl ?_
      first | refine zz_ifb_eq (tgt := 142) C dX2_goes_15 (by decide) (fun c15 => ?_) (fun c15 => ?_) | refine zz_if_eq (tgt := 142) C dX2_goes_15 (by decide) (fun c15 => ?_) (fun c15 => ?_)
      · refine zz_iload_n C dX2_goes_142 rfl ?_
        refine zz_iret C dX2_goes_143 rfl rfl ?_
        subst c15
        rw [← hE]
        exact ⟨z, rfl, hXq, hFq⟩
      · subst c15
        obtain ⟨f1, rfl⟩ : ∃ f1, f = f1 + 1 := ⟨f - 1, by have := hlf rfl; omega⟩
        have hn1 := hnf rfl
        have hlf1 := hlf rfl
        first | refine zz_aload_n C dX2_goes_18 rfl ?_ | refine zz_aload_nN C dX2_goes_18 rfl ?_
        refine zz_callV C zy_X2_readOrder (ct_X2_readOrder hlen hq hXq) rfl q1559 (by first | assumption | exact zz_us | exact zz_lk1 (by assumption) (by assumption) | exact zz_lk3 (hd _ _ (by decide) (by decide) (by decide)) (by assumption) | exact zz_uf (by assumption) (by assumption) | exact zz_lk3 (zz_xi (by assumption) (by assumption)) (zz_lk1 (by assumption) (by assumption)) | exact zz_lk3 (hd _ _ (by decide) (by decide) (by decide)) (zz_lk3 (hd _ _ (by decide) (by decide) (by decide)) (by assumption)) | (simp only [zz_up]; simp_all; done)) rfl rfl rfl rfl rfl rfl dX2_goes_19 ⟨Nat.le_of_ble_eq_true rfl, Nat.le_of_ble_eq_true rfl⟩ (fun v hz hp => ?_)
        obtain ⟨rfl, hX1, hF1⟩ := hp
        have hX1 : tw_X D hz x ad a ah hi kp sl sv pd len so (nI (tp_ord pd len to1 q).2.1) (zz_b (tp_ord pd len to1 q).2.2) (tp_ord pd len to1 q).1 := hX1
        clear hx h0 h1a h2a h3a h4a h5a h6 h7
        obtain ⟨hx, h0, h1a, h2a, h3a, h4a, h5a, h6, h7, -⟩ := id hX1
        refine zz_iload_n C dX2_goes_22 rfl ?_
        refine zz_if_eq (tgt := 63) C dX2_goes_23 (by decide) (fun c23 => ?_) (fun c23 => ?_)
        · refine zz_iconst (v := 1) C dX2_goes_63 (by decide) ?_
          refine zz_goto (tgt := 68) C dX2_goes_64 (by decide) ?_
          refine zz_istore C dX2_goes_68 (by decide) ?_
          refine zz_iload_n C dX2_goes_70 rfl ?_
          refine zz_iload C dX2_goes_71 rfl ?_
          first | refine zz_ifb_eq (tgt := 80) C dX2_goes_73 (by decide) (fun c73 => ?_) (fun c73 => ?_) | refine zz_if_eq (tgt := 80) C dX2_goes_73 (by decide) (fun c73 => ?_) (fun c73 => ?_)
          · exact absurd c73 (by decide)
          · refine zz_iconst (v := 1) C dX2_goes_76 (by decide) ?_
            refine zz_goto (tgt := 81) C dX2_goes_77 (by decide) ?_
            refine zz_iadd C dX2_goes_81 ?_
            refine zz_istore_n C dX2_goes_82 (by decide) ?_
            refine zz_joinI (pcJ := 111) (zz_b (tp_more len (tp_ord pd len to1 q).2)) ?_ ?_
            · rintro z111 rfl
              refine zz_istore_n C dX2_goes_111 (by decide) ?_
              refine zz_iload_n C dX2_goes_112 rfl ?_
              first | refine zz_ifb_eq (tgt := 139) C dX2_goes_113 (by decide) (fun c113 => ?_) (fun c113 => ?_) | refine zz_if_eq (tgt := 139) C dX2_goes_113 (by decide) (fun c113 => ?_) (fun c113 => ?_)
              · refine zz_goto (tgt := 14) C dX2_goes_139 (by decide) ?_
                first
                | (have eG : tp_goM pd len false f1 (tp_ord pd len to1 q).1 (tp_ord pd len to1 q).2 = (tp_go pd len 81 to (0, false)) := by rw [← hE, show tp_goM pd len true (f1 + 1) to1 q = _ from tp_go_n c113]; rfl
                   exact zz_loc2 (ih f1 false _ _ _ _ (by omega) (fun g => by cases g) (fun g => by cases g) (tp_ord_le hq) eG hX1 (hFq.tr hF1)) ⟨rfl, rfl, rfl, by rw [c113]; rfl, trivial⟩)
                | (have eG : tp_goM pd len (!(tp_sep pd len (tp_ord pd len to1 q).2).2) f1 (tp_ord pd len to1 q).1 (tp_sep pd len (tp_ord pd len to1 q).2) = (tp_go pd len 81 to (0, false)) := by rw [← hE, show tp_goM pd len true (f1 + 1) to1 q = _ from tp_go_s c113]
                   have hge : q.1 ≤ (tp_ord pd len to1 q).2.1 := tp_ord_ge
                   exact zz_loc2 (ih f1 (!(tp_sep pd len (tp_ord pd len to1 q).2).2) _ _ (tp_sep pd len (tp_ord pd len to1 q).2) _ (by omega) (fun g => by omega) (fun g => by
                     have e1 : (tp_sep pd len (tp_ord pd len to1 q).2).1 = (tp_ord pd len to1 q).2.1 + 1 := tp_sep_f (by simpa using g)
                     omega) (show (tp_take pd len 59 59 _).1 ≤ len from tp_take_le (tp_ord_le hq) (by decide)) eG hX2 (hFq.tr (hF1.tr hF2))) ⟨rfl, rfl, rfl, rfl, trivial⟩)
              · first | refine zz_aload_n C dX2_goes_116 rfl ?_ | refine zz_aload_nN C dX2_goes_116 rfl ?_
                refine zz_bipush (v := 59) C dX2_goes_117 (by decide) ?_
                refine zz_bipush (v := 59) C dX2_goes_119 (by decide) ?_
                refine zz_callV C zy_X2_takes (ct_X2_takes hlen (tp_ord_le hq) hX1) rfl q1567 (by first | assumption | exact zz_us | exact zz_lk1 (by assumption) (by assumption) | exact zz_lk3 (hd _ _ (by decide) (by decide) (by decide)) (by assumption) | exact zz_uf (by assumption) (by assumption) | exact zz_lk3 (zz_xi (by assumption) (by assumption)) (zz_lk1 (by assumption) (by assumption)) | exact zz_lk3 (hd _ _ (by decide) (by decide) (by decide)) (zz_lk3 (hd _ _ (by decide) (by decide) (by decide)) (by assumption)) | (simp only [zz_up]; simp_all; done)) rfl rfl rfl rfl rfl rfl dX2_goes_121 ⟨Nat.le_of_ble_eq_true rfl, Nat.le_of_ble_eq_true rfl⟩ (fun v hz hp => ?_)
                obtain ⟨rfl, hX2, hF2⟩ := hp
                have hX2 : tw_X D hz x ad a ah hi kp sl sv pd len so (nI (tp_sep pd len (tp_ord pd len to1 q).2).1) (zz_b (tp_sep pd len (tp_ord pd len to1 q).2).2) (tp_ord pd len to1 q).1 := hX2
                clear hx h0 h1a h2a h3a h4a h5a h6 h7
                obtain ⟨hx, h0, h1a, h2a, h3a, h4a, h5a, h6, h7, -⟩ := id hX2
                refine zz_istore C dX2_goes_124 (by decide) ?_
                refine zz_joinI (pcJ := 138) (zz_b (!(tp_sep pd len (tp_ord pd len to1 q).2).2)) ?_ ?_
                · rintro z138 rfl
                  refine zz_istore_n C dX2_goes_138 (by decide) ?_
                  refine zz_goto (tgt := 14) C dX2_goes_139 (by decide) ?_
                  first
                  | (have eG : tp_goM pd len false f1 (tp_ord pd len to1 q).1 (tp_ord pd len to1 q).2 = (tp_go pd len 81 to (0, false)) := by rw [← hE, show tp_goM pd len true (f1 + 1) to1 q = _ from tp_go_n c113]; rfl
                     exact zz_loc2 (ih f1 false _ _ _ _ (by omega) (fun g => by cases g) (fun g => by cases g) (tp_ord_le hq) eG hX1 (hFq.tr hF1)) ⟨rfl, rfl, rfl, by rw [c113]; rfl, trivial⟩)
                  | (have eG : tp_goM pd len (!(tp_sep pd len (tp_ord pd len to1 q).2).2) f1 (tp_ord pd len to1 q).1 (tp_sep pd len (tp_ord pd len to1 q).2) = (tp_go pd len 81 to (0, false)) := by rw [← hE, show tp_goM pd len true (f1 + 1) to1 q = _ from tp_go_s c113]
                     have hge : q.1 ≤ (tp_ord pd len to1 q).2.1 := tp_ord_ge
                     exact zz_loc2 (ih f1 (!(tp_sep pd len (tp_ord pd len to1 q).2).2) _ _ (tp_sep pd len (tp_ord pd len to1 q).2) _ (by omega) (fun g => by omega) (fun g => by
                       have e1 : (tp_sep pd len (tp_ord pd len to1 q).2).1 = (tp_ord pd len to1 q).2.1 + 1 := tp_sep_f (by simpa using g)
                       omega) (show (tp_take pd len 59 59 _).1 ≤ len from tp_take_le (tp_ord_le hq) (by decide)) eG hX2 (hFq.tr (hF1.tr hF2))) ⟨rfl, rfl, rfl, rfl, trivial⟩)
                · intro J138
                  first | refine zz_aload_n C dX2_goes_126 rfl ?_ | refine zz_aload_nN C dX2_goes_126 rfl ?_
                  refine zz_get C rfl (by first | assumption | exact zz_us | exact zz_lk1 (by assumption) (by assumption) | exact zz_lk3 (hd _ _ (by decide) (by decide) (by decide)) (by assumption) | exact zz_uf (by assumption) (by assumption) | exact zz_lk3 (zz_xi (by assumption) (by assumption)) (zz_lk1 (by assumption) (by assumption)) | exact zz_lk3 (hd _ _ (by decide) (by decide) (by decide)) (zz_lk3 (hd _ _ (by decide) (by decide) (by decide)) (by assumption)) | (simp only [zz_up]; simp_all; done)) rfl in_X2 10 rfl q1240 (fun _ h => h) (by first | rfl | assumption) dX2_goes_127 ?_
                  first | refine zz_ifb_ne (tgt := 137) C dX2_goes_130 (by decide) (fun c130 => ?_) (fun c130 => ?_) | refine zz_if_ne (tgt := 137) C dX2_goes_130 (by decide) (fun c130 => ?_) (fun c130 => ?_)
                  · refine zz_iconst (v := 0) C dX2_goes_137 (by decide) ?_
                    exact J138 _ (by first | (rw [show (tp_sep pd len (tp_ord pd len to1 q).2).2 = true from c130]; rfl) | (rw [show (tp_sep pd len (tp_ord pd len to1 q).2).2 = false from c130]; rfl))
                  · refine zz_iconst (v := 1) C dX2_goes_133 (by decide) ?_
                    refine zz_goto (tgt := 138) C dX2_goes_134 (by decide) ?_
                    exact J138 _ (by first | (rw [show (tp_sep pd len (tp_ord pd len to1 q).2).2 = true from c130]; rfl) | (rw [show (tp_sep pd len (tp_ord pd len to1 q).2).2 = false from c130]; rfl))
            · intro J111
              refine zz_iload C dX2_goes_83 rfl ?_
              first | refine zz_ifb_eq (tgt := 110) C dX2_goes_85 (by decide) (fun c85 => ?_) (fun c85 => ?_) | refine zz_if_eq (tgt := 110) C dX2_goes_85 (by decide) (fun c85 => ?_) (fun c85 => ?_)
              · exact absurd c85 (by decide)
              · first | refine zz_aload_n C dX2_goes_88 rfl ?_ | refine zz_aload_nN C dX2_goes_88 rfl ?_
                refine zz_get C rfl (by first | assumption | exact zz_us | exact zz_lk1 (by assumption) (by assumption) | exact zz_lk3 (hd _ _ (by decide) (by decide) (by decide)) (by assumption) | exact zz_uf (by assumption) (by assumption) | exact zz_lk3 (zz_xi (by assumption) (by assumption)) (zz_lk1 (by assumption) (by assumption)) | exact zz_lk3 (hd _ _ (by decide) (by decide) (by decide)) (zz_lk3 (hd _ _ (by decide) (by decide) (by decide)) (by assumption)) | (simp only [zz_up]; simp_all; done)) rfl in_X2 10 rfl q1240 (fun _ h => h) (by first | rfl | assumption) dX2_goes_89 ?_
                first | refine zz_ifb_ne (tgt := 110) C dX2_goes_92 (by decide) (fun c92 => ?_) (fun c92 => ?_) | refine zz_if_ne (tgt := 110) C dX2_goes_92 (by decide) (fun c92 => ?_) (fun c92 => ?_)
                · refine zz_iconst (v := 0) C dX2_goes_110 (by decide) ?_
                  exact J111 _ (by
                        unfold tp_more
                        first
                        | (rw [show (tp_ord pd len to1 q).2.2 = true from c92]; rfl)
                        | (rw [show (tp_ord pd len to1 q).2.2 = false from c92, decide_eq_true hpl]; rfl)
                        | (rw [show (tp_ord pd len to1 q).2.2 = false from c92, decide_eq_false hpl]; rfl))
                · first | refine zz_aload_n C dX2_goes_95 rfl ?_ | refine zz_aload_nN C dX2_goes_95 rfl ?_
                  refine zz_get C rfl (by first | assumption | exact zz_us | exact zz_lk1 (by assumption) (by assumption) | exact zz_lk3 (hd _ _ (by decide) (by decide) (by decide)) (by assumption) | exact zz_uf (by assumption) (by assumption) | exact zz_lk3 (zz_xi (by assumption) (by assumption)) (zz_lk1 (by assumption) (by assumption)) | exact zz_lk3 (hd _ _ (by decide) (by decide) (by decide)) (zz_lk3 (hd _ _ (by decide) (by decide) (by decide)) (by assumption)) | (simp only [zz_up]; simp_all; done)) rfl in_X2 9 rfl q1239 (fun _ h => h) (by first | rfl | assumption) dX2_goes_96 ?_
                  first | refine zz_aload_n C dX2_goes_99 rfl ?_ | refine zz_aload_nN C dX2_goes_99 rfl ?_
                  refine zz_get C rfl (by first | assumption | exact zz_us | exact zz_lk1 (by assumption) (by assumption) | exact zz_lk3 (hd _ _ (by decide) (by decide) (by decide)) (by assumption) | exact zz_uf (by assumption) (by assumption) | exact zz_lk3 (zz_xi (by assumption) (by assumption)) (zz_lk1 (by assumption) (by assumption)) | exact zz_lk3 (hd _ _ (by decide) (by decide) (by decide)) (zz_lk3 (hd _ _ (by decide) (by decide) (by decide)) (by assumption)) | (simp only [zz_up]; simp_all; done)) rfl in_X2 7 rfl q1237 (fun _ h => h) (by first | rfl | assumption) dX2_goes_100 ?_
                  refine zz_icmp_ge (tgt := 110) C dX2_goes_103 (by decide) (fun c103 => ?_) (fun c103 => ?_)
                  · have hpl : ¬ (tp_ord pd len to1 q).2.1 < len := by
                      have hle := tp_ord_le (pd := pd) (to := to1) hq
                      have := (nI_leI (by omega) (by omega)).mp c103
                      omega
                    refine zz_iconst (v := 0) C dX2_goes_110 (by decide) ?_
                    exact J111 _ (by
                          unfold tp_more
                          first
                          | (rw [show (tp_ord pd len to1 q).2.2 = true from c92]; rfl)
                          | (rw [show (tp_ord pd len to1 q).2.2 = false from c92, decide_eq_true hpl]; rfl)
                          | (rw [show (tp_ord pd len to1 q).2.2 = false from c92, decide_eq_false hpl]; rfl))
                  · have hle := tp_ord_le (pd := pd) (to := to1) hq
                    have hpl : (tp_ord pd len to1 q).2.1 < len := Nat.not_le.mp (fun g => c103 (nI_le g (by omega)))
                    refine zz_iconst (v := 1) C dX2_goes_106 (by decide) ?_
                    refine zz_goto (tgt := 111) C dX2_goes_107 (by decide) ?_
                    exact J111 _ (by
                          unfold tp_more
                          first
                          | (rw [show (tp_ord pd len to1 q).2.2 = true from c92]; rfl)
                          | (rw [show (tp_ord pd len to1 q).2.2 = false from c92, decide_eq_true hpl]; rfl)
                          | (rw [show (tp_ord pd len to1 q).2.2 = false from c92, decide_eq_false hpl]; rfl))
        · exact absurd rfl c23
  exact zz_loc2 (L14 82 81 true _ to (0, false) _ (by omega) (fun _ => by omega) (fun _ => by show len < 0 + 81; omega) (Nat.zero_le _) rfl hX0 hF0) ⟨rfl, rfl, rfl, rfl, trivial⟩

