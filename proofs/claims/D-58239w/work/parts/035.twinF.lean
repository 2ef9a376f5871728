/-! the twin: put, what it does, its changes, its beginning -/
theorem ct_X2_put {l : Launch} {D : va_G} {b0 : Nat} {h : zz_H} {x : Nat} {ad : Nat → Nat} {a hi : Nat → Int32} {kp : Nat} {sl sv pd : Nat → Int32} {len : Nat} {v0 : Int64} (hlen : len ≤ 80) (hS : tw_S D h x ad a hi kp sl sv pd len)  : zz_Ct l D b0 yX2_put cX2_put 8 (some .int) 1 22 0 0 [.ref x, .long v0] h (fun v h' => ∃ (pd' : Nat → Int32) (len' : Nat), v = some (.int (op_put v0 len)) ∧ tw_S D h' x ad a hi kp sl sv pd' len' ∧ tw_F x ad h h' ∧ qa_pt v0 len pd pd' len') := by
  refine zz_Ct.of zy_X2_put.1 rfl ?_
  intro p e s m below meth c C
  obtain ⟨ah, so, pos, wr, to, hX⟩ := hS
  have hM := hX.M
  obtain ⟨hx, h0, h1a, h2a, h3a, h4a, h5a, h6, h7, hd⟩ := id hX
  refine zz_iconst (v := 0) C dX2_put_0 (by decide) ?_
  refine zz_istore_n C dX2_put_1 (by decide) ?_
  refine zz_iconst (v := 0) C dX2_put_2 (by decide) ?_
  refine zz_istore C dX2_put_3 (by decide) ?_
  refine zz_iconst (v := 0) C dX2_put_5 (by decide) ?_
  refine zz_istore C dX2_put_6 (by decide) ?_
  have L8 : ∀ (n : Nat) (i : Nat), i ≤ 8 → 9 ≤ i + n → zz_V D b0 8 p l e ({ frames := 1, cells := 0, slots := 0, locals := 22 } : Jvm.Room) s m ([.ref x, .long v0] : List Value).toArray below meth c (MQ below (zz_Q D b0 (fun v h' => ∃ (pd' : Nat → Int32) (len' : Nat), v = some (.int (op_put v0 len)) ∧ tw_S D h' x ad a hi kp sl sv pd' len' ∧ tw_F x ad h h' ∧ qa_pt v0 len pd pd' len')) ([.ref x, .long v0] : List Value).toArray s 0 0 (fun q => b0 ≤ q)) 0 0 h [(0, .ref x), (1, .long v0), (3, .int (nI (pt_many v0 i))), (4, .int (zz_b (pt_bad v0 i))), (5, .int (nI i))] 8 [] := by
    intro n
    induction n with
    | zero =>
      intro i h1 h2
      exact absurd h2 (by omega)
    | succ n ih =>
      intro i h1 h2
      have hi3 := pt_many_le v0 i
      refine zz_iload C dX2_put_8 rfl ?_
      refine zz_bipush (v := nI 8) C dX2_put_10 (by decide) ?_
      refine zz_icmp_ge (tgt := 101) C dX2_put_12 (by decide) (fun c12 => ?_) (fun c12 => ?_)
      · have hi2 : 8 ≤ i := (nI_leI (a := 8) (by omega) (by omega)).mp c12
        obtain rfl : i = 8 := by omega
        refine zz_iload C dX2_put_101 rfl ?_
        first | refine zz_ifb_eq (tgt := 109) C dX2_put_103 (by decide) (fun c103 => ?_) (fun c103 => ?_) | refine zz_if_eq (tgt := 109) C dX2_put_103 (by decide) (fun c103 => ?_) (fun c103 => ?_)
        · first | refine zz_aload_n C dX2_put_109 rfl ?_ | refine zz_aload_nN C dX2_put_109 rfl ?_
          refine zz_get C rfl (by first | assumption | exact zz_us | exact zz_lk1 (by assumption) (by assumption) | exact zz_lk3 (hd _ _ (by decide) (by decide) (by decide)) (by assumption) | exact zz_uf (by assumption) (by assumption) | exact zz_lk3 (zz_xi (by assumption) (by assumption)) (zz_lk1 (by assumption) (by assumption)) | exact zz_lk3 (hd _ _ (by decide) (by decide) (by decide)) (zz_lk3 (hd _ _ (by decide) (by decide) (by decide)) (by assumption)) | (simp only [zz_up]; simp_all; done)) rfl in_X2 7 rfl q1237 (fun _ h => h) (by first | rfl | assumption) dX2_put_110 ?_
          refine zz_iload_n C dX2_put_113 rfl ?_
          refine zz_iadd C dX2_put_114 ?_
          refine zz_bipush (v := 80) C dX2_put_115 (by decide) ?_
          refine zz_icmp_le (tgt := 123) C dX2_put_117 (by decide) (fun c117 => ?_) (fun c117 => ?_)
          · have hm := pt_many_le v0 8
            have hle : len + pt_many v0 8 ≤ 80 := (nI_leI (a := len + pt_many v0 8) (b := 80) (by omega) (by omega)).mp (by rw [← nI_add]; exact c117)
            refine zz_iconst (v := 0) C dX2_put_123 (by decide) ?_
            refine zz_istore C dX2_put_124 (by decide) ?_
            have L126 : ∀ (n : Nat) (i : Nat) (g : Nat → Int32), i ≤ pt_many v0 8 → pt_many v0 8 + 1 ≤ i + n → (∀ j : Nat, j < len → g j = pd j) → (∀ k : Nat, k < i → g (len + pt_many v0 8 - 1 - k) = pt_c v0 k) → zz_V D b0 8 p l e ({ frames := 1, cells := 0, slots := 0, locals := 22 } : Jvm.Room) s m ([.ref x, .long v0] : List Value).toArray below meth c (MQ below (zz_Q D b0 (fun v h' => ∃ (pd' : Nat → Int32) (len' : Nat), v = some (.int (op_put v0 len)) ∧ tw_S D h' x ad a hi kp sl sv pd' len' ∧ tw_F x ad h h' ∧ qa_pt v0 len pd pd' len')) ([.ref x, .long v0] : List Value).toArray s 0 0 (fun q => b0 ≤ q)) 0 0 (zz_up h (ad 5) (.inl (D.1 100, 80, .inl g))) [(0, .ref x), (1, .long v0), (3, .int (nI (pt_many v0 8))), (5, .int (nI i))] 126 [] := by
              intro n
              induction n with
              | zero =>
                intro i g h1 h2 hg1 hg2
                exact absurd h2 (by omega)
              | succ n ih =>
                intro i g h1 h2 hg1 hg2
                refine zz_iload C dX2_put_126 rfl ?_
                refine zz_iload_n C dX2_put_128 rfl ?_
                refine zz_icmp_ge (tgt := 166) C dX2_put_129 (by decide) (fun c129 => ?_) (fun c129 => ?_)
                · have hi2 : pt_many v0 8 ≤ i := (nI_leI (by omega) (by omega)).mp c129
                  obtain rfl : i = pt_many v0 8 := by omega
                  first | refine zz_aload_n C dX2_put_166 rfl ?_ | refine zz_aload_nN C dX2_put_166 rfl ?_
                  refine zz_dup C dX2_put_167 rfl ?_
                  refine zz_get C rfl (by first | assumption | exact zz_us | exact zz_lk1 (by assumption) (by assumption) | exact zz_lk3 (hd _ _ (by decide) (by decide) (by decide)) (by assumption) | exact zz_uf (by assumption) (by assumption) | exact zz_lk3 (zz_xi (by assumption) (by assumption)) (zz_lk1 (by assumption) (by assumption)) | exact zz_lk3 (hd _ _ (by decide) (by decide) (by decide)) (zz_lk3 (hd _ _ (by decide) (by decide) (by decide)) (by assumption)) | (simp only [zz_up]; simp_all; done)) rfl in_X2 7 rfl q1237 (fun _ h => h) (by first | rfl | assumption) dX2_put_168 ?_
                  refine zz_iload_n C dX2_put_171 rfl ?_
                  refine zz_iadd C dX2_put_172 ?_
                  refine zz_put C rfl (by first | assumption | exact zz_us | exact zz_lk1 (by assumption) (by assumption) | exact zz_lk3 (hd _ _ (by decide) (by decide) (by decide)) (by assumption) | exact zz_uf (by assumption) (by assumption) | exact zz_lk3 (zz_xi (by assumption) (by assumption)) (zz_lk1 (by assumption) (by assumption)) | exact zz_lk3 (hd _ _ (by decide) (by decide) (by decide)) (zz_lk3 (hd _ _ (by decide) (by decide) (by decide)) (by assumption)) | (simp only [zz_up]; simp_all; done)) rfl in_X2 tyX2 tyX2_ok nmX2 7 rfl q1237 (fun _ h => h) rfl (tyX2_ok 7 (by decide)) (by first | rfl | exact zz_narZ (by first | exact zz_b01 _ | assumption | decide)) rfl (Nat.le_of_ble_eq_true rfl) dX2_put_173 ?_
                  first | refine zz_aload_n C dX2_put_176 rfl ?_ | refine zz_aload_nN C dX2_put_176 rfl ?_
                  refine zz_get C rfl (by first | assumption | exact zz_us | exact zz_lk1 (by assumption) (by assumption) | exact zz_lk3 (hd _ _ (by decide) (by decide) (by decide)) (by assumption) | exact zz_uf (by assumption) (by assumption) | exact zz_lk3 (zz_xi (by assumption) (by assumption)) (zz_lk1 (by assumption) (by assumption)) | exact zz_lk3 (hd _ _ (by decide) (by decide) (by decide)) (zz_lk3 (hd _ _ (by decide) (by decide) (by decide)) (by assumption)) | (simp only [zz_up]; simp_all; done)) rfl in_X2 7 rfl q1237 (fun _ h => h) (by first | rfl | assumption) dX2_put_177 ?_
                  refine zz_iret C dX2_put_180 rfl rfl ?_
                  first
                  | (refine ⟨pd, len, by unfold op_put; rw [if_pos c103], hX.S, tw_F.rf, ?_⟩; unfold qa_pt; rw [if_pos (Or.inl c103)]; exact ⟨rfl, rfl⟩)
                  | (refine ⟨pd, len, by unfold op_put; rw [if_neg (show ¬ pt_bad v0 8 = true from by rw [c103]; decide), if_pos c117], hX.S, tw_F.rf, ?_⟩; unfold qa_pt; rw [if_pos (Or.inr (by omega))]; exact ⟨rfl, rfl⟩)
                  | (refine ⟨g, len + pt_many v0 8, by unfold op_put; rw [if_neg (show ¬ pt_bad v0 8 = true from by rw [c103]; decide), if_neg (Decidable.not_not.mpr c117), nI_add], ?_, (tw_F.up 5 (by decide)).tr tw_F.ux, ?_⟩
                     · have hX3 := ((hX.u5 g).fx kp (len + pt_many v0 8) pos wr).S
                       rw [← nI_add] at hX3
                       exact hX3
                     · unfold qa_pt; rw [if_neg (fun q => q.elim (fun q => by rw [c103] at q; cases q) (fun q => by omega))]; exact ⟨rfl, hg1, hg2⟩)
                · have hi2 : i < pt_many v0 8 := Nat.not_le.mp (fun q => c129 (nI_le q (by omega)))
                  first | refine zz_aload_n C dX2_put_132 rfl ?_ | refine zz_aload_nN C dX2_put_132 rfl ?_
                  refine zz_get C rfl (by first | assumption | exact zz_us | exact zz_lk1 (by assumption) (by assumption) | exact zz_lk3 (hd _ _ (by decide) (by decide) (by decide)) (by assumption) | exact zz_uf (by assumption) (by assumption) | exact zz_lk3 (zz_xi (by assumption) (by assumption)) (zz_lk1 (by assumption) (by assumption)) | exact zz_lk3 (hd _ _ (by decide) (by decide) (by decide)) (zz_lk3 (hd _ _ (by decide) (by decide) (by decide)) (by assumption)) | (simp only [zz_up]; simp_all; done)) rfl in_X2 6 rfl q1236 (fun _ h => h) (by first | rfl | assumption) dX2_put_133 ?_
                  first | refine zz_aload_n C dX2_put_136 rfl ?_ | refine zz_aload_nN C dX2_put_136 rfl ?_
                  refine zz_get C rfl (by first | assumption | exact zz_us | exact zz_lk1 (by assumption) (by assumption) | exact zz_lk3 (hd _ _ (by decide) (by decide) (by decide)) (by assumption) | exact zz_uf (by assumption) (by assumption) | exact zz_lk3 (zz_xi (by assumption) (by assumption)) (zz_lk1 (by assumption) (by assumption)) | exact zz_lk3 (hd _ _ (by decide) (by decide) (by decide)) (zz_lk3 (hd _ _ (by decide) (by decide) (by decide)) (by assumption)) | (simp only [zz_up]; simp_all; done)) rfl in_X2 7 rfl q1237 (fun _ h => h) (by first | rfl | assumption) dX2_put_137 ?_
                  refine zz_iload_n C dX2_put_140 rfl ?_
                  refine zz_iadd C dX2_put_141 ?_
                  refine zz_iconst (v := 1) C dX2_put_142 (by decide) ?_
                  refine zz_isub C dX2_put_143 ?_
                  refine zz_iload C dX2_put_144 rfl ?_
                  refine zz_isub C dX2_put_146 ?_
                  refine zz_lload_n C dX2_put_147 rfl ?_
                  refine zz_bipush (v := nI 8) C dX2_put_148 (by decide) ?_
                  refine zz_iload C dX2_put_150 rfl ?_
                  refine zz_imul C dX2_put_152 ?_
                  rw [pk_mul]
                  refine zz_lushr C dX2_put_153 ?_
                  refine zz_ldc2 C rfl q1546 dX2_put_154 ?_
                  refine zz_land C dX2_put_157 ?_
                  refine zz_l2i C dX2_put_158 ?_
                  first | refine zz_iast2 C (by rw [nI_add, show nI (len + pt_many v0 8) - 1 = nI (len + pt_many v0 8 - 1) from pk_sub (b := 1) (by omega)]; exact pk_sub (by omega)) (by omega) (by omega) dX2_put_159 ?_ | refine zz_iast C (by first | assumption | exact zz_us | exact zz_lk1 (by assumption) (by assumption) | exact zz_lk3 (hd _ _ (by decide) (by decide) (by decide)) (by assumption) | exact zz_uf (by assumption) (by assumption) | exact zz_lk3 (zz_xi (by assumption) (by assumption)) (zz_lk1 (by assumption) (by assumption)) | exact zz_lk3 (hd _ _ (by decide) (by decide) (by decide)) (zz_lk3 (hd _ _ (by decide) (by decide) (by decide)) (by assumption)) | (simp only [zz_up]; simp_all; done)) (by rw [nI_add, show nI (len + pt_many v0 8) - 1 = nI (len + pt_many v0 8 - 1) from pk_sub (b := 1) (by omega)]; exact pk_sub (by omega)) (by omega) (by omega) dX2_put_159 ?_
                  refine zz_iinc C dX2_put_160 rfl (by first | exact nI_1 _ | exact (rfl : _ + Int32.ofInt 1 = _ + 1)) (by decide) ?_
                  refine zz_goto (tgt := 126) C dX2_put_163 (by decide) ?_
                  exact zz_loc2 (ih (i + 1) _ (by omega) (by omega) (fun j hj => by rw [up_n (by omega)]; exact hg1 j hj) (fun k hk => by
                    by_cases hki : k = i
                    · rw [hki, up_s]; rfl
                    · rw [up_n (by omega)]; exact hg2 k (by omega))) ⟨rfl, rfl, rfl, rfl, trivial⟩
            have L0 := L126 9 0 pd (by omega) (by omega) (fun _ _ => rfl) (fun k hk => absurd hk (Nat.not_lt_zero k))
            rw [zz_upsame h5a] at L0
            exact zz_loc2 L0 ⟨rfl, rfl, rfl, rfl, trivial⟩
          · have hm := pt_many_le v0 8
            have hle : ¬ len + pt_many v0 8 ≤ 80 := fun q => c117 (by rw [nI_add]; exact nI_le (b := 80) q (by omega))
            refine zz_bipush (v := (-4)) C dX2_put_120 (by decide) ?_
            refine zz_iret C dX2_put_122 rfl rfl ?_
            first
            | (refine ⟨pd, len, by unfold op_put; rw [if_pos c103], hX.S, tw_F.rf, ?_⟩; unfold qa_pt; rw [if_pos (Or.inl c103)]; exact ⟨rfl, rfl⟩)
            | (refine ⟨pd, len, by unfold op_put; rw [if_neg (show ¬ pt_bad v0 8 = true from by rw [c103]; decide), if_pos c117], hX.S, tw_F.rf, ?_⟩; unfold qa_pt; rw [if_pos (Or.inr (by omega))]; exact ⟨rfl, rfl⟩)
            | (refine ⟨g, len + pt_many v0 8, by unfold op_put; rw [if_neg (show ¬ pt_bad v0 8 = true from by rw [c103]; decide), if_neg (Decidable.not_not.mpr c117), nI_add], ?_, (tw_F.up 5 (by decide)).tr tw_F.ux, ?_⟩
               · have hX3 := ((hX.u5 g).fx kp (len + pt_many v0 8) pos wr).S
                 rw [← nI_add] at hX3
                 exact hX3
               · unfold qa_pt; rw [if_neg (fun q => q.elim (fun q => by rw [c103] at q; cases q) (fun q => by omega))]; exact ⟨rfl, hg1, hg2⟩)
        · refine zz_bipush (v := (-2)) C dX2_put_106 (by decide) ?_
          refine zz_iret C dX2_put_108 rfl rfl ?_
          first
          | (refine ⟨pd, len, by unfold op_put; rw [if_pos c103], hX.S, tw_F.rf, ?_⟩; unfold qa_pt; rw [if_pos (Or.inl c103)]; exact ⟨rfl, rfl⟩)
          | (refine ⟨pd, len, by unfold op_put; rw [if_neg (show ¬ pt_bad v0 8 = true from by rw [c103]; decide), if_pos c117], hX.S, tw_F.rf, ?_⟩; unfold qa_pt; rw [if_pos (Or.inr (by omega))]; exact ⟨rfl, rfl⟩)
          | (refine ⟨g, len + pt_many v0 8, by unfold op_put; rw [if_neg (show ¬ pt_bad v0 8 = true from by rw [c103]; decide), if_neg (Decidable.not_not.mpr c117), nI_add], ?_, (tw_F.up 5 (by decide)).tr tw_F.ux, ?_⟩
             · have hX3 := ((hX.u5 g).fx kp (len + pt_many v0 8) pos wr).S
               rw [← nI_add] at hX3
               exact hX3
             · unfold qa_pt; rw [if_neg (fun q => q.elim (fun q => by rw [c103] at q; cases q) (fun q => by omega))]; exact ⟨rfl, hg1, hg2⟩)
      · have hi2 : i < 8 := Nat.not_le.mp (fun q => c12 (nI_le (a := 8) q (by omega)))
        refine zz_lload_n C dX2_put_15 rfl ?_
        refine zz_bipush (v := nI 8) C dX2_put_16 (by decide) ?_
        refine zz_iload C dX2_put_18 rfl ?_
        refine zz_imul C dX2_put_20 ?_
        rw [pk_mul]
        refine zz_lushr C dX2_put_21 ?_
        refine zz_ldc2 C rfl q1546 dX2_put_22 ?_
        refine zz_land C dX2_put_25 ?_
        refine zz_l2i C dX2_put_26 ?_
        refine zz_istore C dX2_put_27 (by decide) ?_
        refine zz_joinI (pcJ := 51) (zz_b (pt_end v0 i)) ?_ ?_
        · rintro z51 rfl
          refine zz_istore C dX2_put_51 (by decide) ?_
          refine zz_joinI (pcJ := 80) (zz_b (pt_bad v0 (i + 1))) ?_ ?_
          · rintro z80 rfl
            refine zz_istore C dX2_put_80 (by decide) ?_
            refine zz_iload_n C dX2_put_82 rfl ?_
            refine zz_joinI (pcJ := 93) ((if pt_end v0 i = true then 0 else 1)) ?_ ?_
            · rintro z93 rfl
              refine zz_iadd C dX2_put_93 ?_
              refine zz_istore_n C dX2_put_94 (by decide) ?_
              refine zz_iinc C dX2_put_95 rfl (by first | exact nI_1 _ | exact (rfl : _ + Int32.ofInt 1 = _ + 1)) (by decide) ?_
              refine zz_goto (tgt := 8) C dX2_put_98 (by decide) ?_
              rw [pt_many_s]
              exact zz_loc2 (ih (i + 1) (by omega) (by omega)) ⟨rfl, rfl, rfl, rfl, rfl, trivial⟩
            · intro J93
              refine zz_iload C dX2_put_83 rfl ?_
              first | refine zz_ifb_eq (tgt := 92) C dX2_put_85 (by decide) (fun c85 => ?_) (fun c85 => ?_) | refine zz_if_eq (tgt := 92) C dX2_put_85 (by decide) (fun c85 => ?_) (fun c85 => ?_)
              · refine zz_iconst (v := 1) C dX2_put_92 (by decide) ?_
                exact J93 _ (by first | exact zz_ift ‹_› | exact zz_iff ‹_›)
              · refine zz_iconst (v := 0) C dX2_put_88 (by decide) ?_
                refine zz_goto (tgt := 93) C dX2_put_89 (by decide) ?_
                exact J93 _ (by first | exact zz_ift ‹_› | exact zz_iff ‹_›)
          · intro J80
            refine zz_iload C dX2_put_53 rfl ?_
            first | refine zz_ifb_ne (tgt := 75) C dX2_put_55 (by decide) (fun c55 => ?_) (fun c55 => ?_) | refine zz_if_ne (tgt := 75) C dX2_put_55 (by decide) (fun c55 => ?_) (fun c55 => ?_)
            · refine zz_iconst (v := 1) C dX2_put_75 (by decide) ?_
              refine zz_goto (tgt := 80) C dX2_put_76 (by decide) ?_
              exact J80 _ (by
                    show _ = zz_b (pt_bad v0 i || (!pt_end v0 i && !qa_in (pt_c v0 i) 33 126))
                    first
                    | rw [c55] <;> rfl
                    | rw [c55, c60] <;> rfl
                    | (rw [c55, c60, show qa_in (pt_c v0 i) 33 126 = false from c72] <;> rfl)
                    | (rw [c55, c60, show qa_in (pt_c v0 i) 33 126 = true from c72] <;> rfl))
            · refine zz_iload C dX2_put_58 rfl ?_
              first | refine zz_ifb_ne (tgt := 79) C dX2_put_60 (by decide) (fun c60 => ?_) (fun c60 => ?_) | refine zz_if_ne (tgt := 79) C dX2_put_60 (by decide) (fun c60 => ?_) (fun c60 => ?_)
              · refine zz_iconst (v := 0) C dX2_put_79 (by decide) ?_
                exact J80 _ (by
                      show _ = zz_b (pt_bad v0 i || (!pt_end v0 i && !qa_in (pt_c v0 i) 33 126))
                      first
                      | rw [c55] <;> rfl
                      | rw [c55, c60] <;> rfl
                      | (rw [c55, c60, show qa_in (pt_c v0 i) 33 126 = false from c72] <;> rfl)
                      | (rw [c55, c60, show qa_in (pt_c v0 i) 33 126 = true from c72] <;> rfl))
              · refine zz_iload C dX2_put_63 rfl ?_
                refine zz_bipush (v := 33) C dX2_put_65 (by decide) ?_
                refine zz_bipush (v := 126) C dX2_put_67 (by decide) ?_
                refine zz_callS C zy_X2_in (ct_X2_in) rfl q1272 rfl rfl rfl rfl rfl dX2_put_69 ⟨Nat.le_of_ble_eq_true rfl, Nat.le_of_ble_eq_true rfl⟩ (fun v hz hp => ?_)
                obtain ⟨rfl, ez⟩ := hp
                obtain rfl := ez.symm
                first | refine zz_ifb_ne (tgt := 79) C dX2_put_72 (by decide) (fun c72 => ?_) (fun c72 => ?_) | refine zz_if_ne (tgt := 79) C dX2_put_72 (by decide) (fun c72 => ?_) (fun c72 => ?_)
                · refine zz_iconst (v := 0) C dX2_put_79 (by decide) ?_
                  exact J80 _ (by
                        show _ = zz_b (pt_bad v0 i || (!pt_end v0 i && !qa_in (pt_c v0 i) 33 126))
                        first
                        | rw [c55] <;> rfl
                        | rw [c55, c60] <;> rfl
                        | (rw [c55, c60, show qa_in (pt_c v0 i) 33 126 = false from c72] <;> rfl)
                        | (rw [c55, c60, show qa_in (pt_c v0 i) 33 126 = true from c72] <;> rfl))
                · refine zz_iconst (v := 1) C dX2_put_75 (by decide) ?_
                  refine zz_goto (tgt := 80) C dX2_put_76 (by decide) ?_
                  exact J80 _ (by
                        show _ = zz_b (pt_bad v0 i || (!pt_end v0 i && !qa_in (pt_c v0 i) 33 126))
                        first
                        | rw [c55] <;> rfl
                        | rw [c55, c60] <;> rfl
                        | (rw [c55, c60, show qa_in (pt_c v0 i) 33 126 = false from c72] <;> rfl)
                        | (rw [c55, c60, show qa_in (pt_c v0 i) 33 126 = true from c72] <;> rfl))
        · intro J51
          refine zz_iload C dX2_put_29 rfl ?_
          refine zz_if_le (tgt := 50) C dX2_put_31 (by decide) (fun c31 => ?_) (fun c31 => ?_)
          · refine zz_iconst (v := 0) C dX2_put_50 (by decide) ?_
            exact J51 _ (by
                  unfold pt_end
                  first
                  | exact zz_bf (by have e0 : i = 0 := (nI_eq (b := 0) (by omega) (by omega)).mp (Int32.le_antisymm c31 (nI_pos' (by omega))); rw [e0]; rfl)
                  | exact zz_bt (by rw [decide_eq_true (show pt_s v0 i = 0 from lg_cmp_eq _ _ |>.mp c43), decide_eq_true (show 0 < i from Nat.pos_of_ne_zero (fun q => c31 (by rw [q]; decide)))]; rfl)
                  | exact zz_bf (by rw [decide_eq_false (show ¬ pt_s v0 i = 0 from fun q => c43 (lg_cmp_eq _ _ |>.mpr q)), Bool.and_false]))
          · refine zz_lload_n C dX2_put_34 rfl ?_
            refine zz_bipush (v := nI 8) C dX2_put_35 (by decide) ?_
            refine zz_iload C dX2_put_37 rfl ?_
            refine zz_imul C dX2_put_39 ?_
            rw [pk_mul]
            refine zz_lushr C dX2_put_40 ?_
            refine zz_lconst (v := 0) C dX2_put_41 (by decide) ?_
            refine zz_lcmp C dX2_put_42 ?_
            first | refine zz_ifb_ne (tgt := 50) C dX2_put_43 (by decide) (fun c43 => ?_) (fun c43 => ?_) | refine zz_if_ne (tgt := 50) C dX2_put_43 (by decide) (fun c43 => ?_) (fun c43 => ?_)
            · refine zz_iconst (v := 0) C dX2_put_50 (by decide) ?_
              exact J51 _ (by
                    unfold pt_end
                    first
                    | exact zz_bf (by have e0 : i = 0 := (nI_eq (b := 0) (by omega) (by omega)).mp (Int32.le_antisymm c31 (nI_pos' (by omega))); rw [e0]; rfl)
                    | exact zz_bt (by rw [decide_eq_true (show pt_s v0 i = 0 from lg_cmp_eq _ _ |>.mp c43), decide_eq_true (show 0 < i from Nat.pos_of_ne_zero (fun q => c31 (by rw [q]; decide)))]; rfl)
                    | exact zz_bf (by rw [decide_eq_false (show ¬ pt_s v0 i = 0 from fun q => c43 (lg_cmp_eq _ _ |>.mpr q)), Bool.and_false]))
            · refine zz_iconst (v := 1) C dX2_put_46 (by decide) ?_
              refine zz_goto (tgt := 51) C dX2_put_47 (by decide) ?_
              exact J51 _ (by
                    unfold pt_end
                    first
                    | exact zz_bf (by have e0 : i = 0 := (nI_eq (b := 0) (by omega) (by omega)).mp (Int32.le_antisymm c31 (nI_pos' (by omega))); rw [e0]; rfl)
                    | exact zz_bt (by rw [decide_eq_true (show pt_s v0 i = 0 from lg_cmp_eq _ _ |>.mp c43), decide_eq_true (show 0 < i from Nat.pos_of_ne_zero (fun q => c31 (by rw [q]; decide)))]; rfl)
                    | exact zz_bf (by rw [decide_eq_false (show ¬ pt_s v0 i = 0 from fun q => c43 (lg_cmp_eq _ _ |>.mpr q)), Bool.and_false]))
  exact zz_loc2 (L8 9 0 (by omega) (by omega)) ⟨rfl, rfl, rfl, rfl, rfl, trivial⟩

theorem ct_X2_init {l : Launch} {D : va_G} {b0 : Nat} {h : zz_H} {x : Nat} (hx : h x = some (.inr (6, [.null, .null, .null, .int (nI 0), .null, .null, .null, .int (nI 0), .null, .int 0, .int 0, .null])))  : zz_Ct l D b0 yX2_init cX2_init 2 (none) 1 21 8 3330 [.ref x] h (fun v h' => v = none ∧ tw_B D b0 h h' x) := by
  refine zz_Ct.of zy_X2_init.1 rfl ?_
  intro p e s m below meth c C
  have hN := tw_N.z (b0 := b0) hx
  first | refine zz_aload_n C dX2_init_0 rfl ?_ | refine zz_aload_nN C dX2_init_0 rfl ?_
  refine zz_objInit C rfl q1226 q123 q124 dX2_init_1 rfl rfl rfl ?_
  first | refine zz_aload_n C dX2_init_4 rfl ?_ | refine zz_aload_nN C dX2_init_4 rfl ?_
  refine zz_sipush (v := nI 324) C dX2_init_5 (by decide) ?_
  refine zz_newI (N := 324) C rfl (by omega) rfl (by decide) dX2_init_8 (fun o8 n8 b8 => ?_)
  refine zz_putF C rfl (by first | assumption | exact zz_us | exact zz_lk1 (by assumption) (by assumption) | exact zz_lk3 (hd _ _ (by decide) (by decide) (by decide)) (by assumption) | exact zz_uf (by assumption) (by assumption) | exact zz_lk3 (zz_xi (by assumption) (by assumption)) (zz_lk1 (by assumption) (by assumption)) | exact zz_lk3 (hd _ _ (by decide) (by decide) (by decide)) (zz_lk3 (hd _ _ (by decide) (by decide) (by decide)) (by assumption)) | (simp only [zz_up]; simp_all; done)) rfl in_X2 tyX2 tyX2_ok nmX2 0 rfl q1230 (fun _ h => h) rfl rfl rfl (tyX2_ok 0 (by decide)) (by first | rfl | exact zz_narZ (by first | exact zz_b01 _ | assumption | decide)) rfl (Nat.le_of_ble_eq_true rfl) dX2_init_10 ?_
  refine zz_gen (P := fun hz => tw_N b0 h x hz (6, [.ref o8, .null, .null, .int (nI 0), .null, .null, .null, .int (nI 0), .null, .int 0, .int 0, .null]) [(o8, .inl (D.1 100, 324, .inl (fun _ => 0)))]) (hN.s n8 b8) (fun hz hN => ?_)
  have hx := hN.1
  first | refine zz_aload_n C dX2_init_13 rfl ?_ | refine zz_aload_nN C dX2_init_13 rfl ?_
  refine zz_sipush (v := nI 324) C dX2_init_14 (by decide) ?_
  refine zz_newI (N := 324) C rfl (by omega) rfl (by decide) dX2_init_17 (fun o17 n17 b17 => ?_)
  refine zz_putF C rfl (by first | assumption | exact zz_us | exact zz_lk1 (by assumption) (by assumption) | exact zz_lk3 (hd _ _ (by decide) (by decide) (by decide)) (by assumption) | exact zz_uf (by assumption) (by assumption) | exact zz_lk3 (zz_xi (by assumption) (by assumption)) (zz_lk1 (by assumption) (by assumption)) | exact zz_lk3 (hd _ _ (by decide) (by decide) (by decide)) (zz_lk3 (hd _ _ (by decide) (by decide) (by decide)) (by assumption)) | (simp only [zz_up]; simp_all; done)) rfl in_X2 tyX2 tyX2_ok nmX2 1 rfl q1231 (fun _ h => h) rfl rfl rfl (tyX2_ok 1 (by decide)) (by first | rfl | exact zz_narZ (by first | exact zz_b01 _ | assumption | decide)) rfl (Nat.le_of_ble_eq_true rfl) dX2_init_19 ?_
  refine zz_gen (P := fun hz => tw_N b0 h x hz (6, [.ref o8, .ref o17, .null, .int (nI 0), .null, .null, .null, .int (nI 0), .null, .int 0, .int 0, .null]) [(o17, .inl (D.1 100, 324, .inl (fun _ => 0))), (o8, .inl (D.1 100, 324, .inl (fun _ => 0)))]) (hN.s n17 b17) (fun hz hN => ?_)
  have hx := hN.1
  first | refine zz_aload_n C dX2_init_22 rfl ?_ | refine zz_aload_nN C dX2_init_22 rfl ?_
  refine zz_sipush (v := nI 1944) C dX2_init_23 (by decide) ?_
  refine zz_newI (N := 1944) C rfl (by omega) rfl (by decide) dX2_init_26 (fun o26 n26 b26 => ?_)
  refine zz_putF C rfl (by first | assumption | exact zz_us | exact zz_lk1 (by assumption) (by assumption) | exact zz_lk3 (hd _ _ (by decide) (by decide) (by decide)) (by assumption) | exact zz_uf (by assumption) (by assumption) | exact zz_lk3 (zz_xi (by assumption) (by assumption)) (zz_lk1 (by assumption) (by assumption)) | exact zz_lk3 (hd _ _ (by decide) (by decide) (by decide)) (zz_lk3 (hd _ _ (by decide) (by decide) (by decide)) (by assumption)) | (simp only [zz_up]; simp_all; done)) rfl in_X2 tyX2 tyX2_ok nmX2 2 rfl q1232 (fun _ h => h) rfl rfl rfl (tyX2_ok 2 (by decide)) (by first | rfl | exact zz_narZ (by first | exact zz_b01 _ | assumption | decide)) rfl (Nat.le_of_ble_eq_true rfl) dX2_init_28 ?_
  refine zz_gen (P := fun hz => tw_N b0 h x hz (6, [.ref o8, .ref o17, .ref o26, .int (nI 0), .null, .null, .null, .int (nI 0), .null, .int 0, .int 0, .null]) [(o26, .inl (D.1 100, 1944, .inl (fun _ => 0))), (o17, .inl (D.1 100, 324, .inl (fun _ => 0))), (o8, .inl (D.1 100, 324, .inl (fun _ => 0)))]) (hN.s n26 b26) (fun hz hN => ?_)
  have hx := hN.1
  first | refine zz_aload_n C dX2_init_31 rfl ?_ | refine zz_aload_nN C dX2_init_31 rfl ?_
  refine zz_sipush (v := nI 648) C dX2_init_32 (by decide) ?_
  refine zz_newI (N := 648) C rfl (by omega) rfl (by decide) dX2_init_35 (fun o35 n35 b35 => ?_)
  refine zz_putF C rfl (by first | assumption | exact zz_us | exact zz_lk1 (by assumption) (by assumption) | exact zz_lk3 (hd _ _ (by decide) (by decide) (by decide)) (by assumption) | exact zz_uf (by assumption) (by assumption) | exact zz_lk3 (zz_xi (by assumption) (by assumption)) (zz_lk1 (by assumption) (by assumption)) | exact zz_lk3 (hd _ _ (by decide) (by decide) (by decide)) (zz_lk3 (hd _ _ (by decide) (by decide) (by decide)) (by assumption)) | (simp only [zz_up]; simp_all; done)) rfl in_X2 tyX2 tyX2_ok nmX2 4 rfl q1234 (fun _ h => h) rfl rfl rfl (tyX2_ok 4 (by decide)) (by first | rfl | exact zz_narZ (by first | exact zz_b01 _ | assumption | decide)) rfl (Nat.le_of_ble_eq_true rfl) dX2_init_37 ?_
  refine zz_gen (P := fun hz => tw_N b0 h x hz (6, [.ref o8, .ref o17, .ref o26, .int (nI 0), .ref o35, .null, .null, .int (nI 0), .null, .int 0, .int 0, .null]) [(o35, .inl (D.1 100, 648, .inl (fun _ => 0))), (o26, .inl (D.1 100, 1944, .inl (fun _ => 0))), (o17, .inl (D.1 100, 324, .inl (fun _ => 0))), (o8, .inl (D.1 100, 324, .inl (fun _ => 0)))]) (hN.s n35 b35) (fun hz hN => ?_)
  have hx := hN.1
  first | refine zz_aload_n C dX2_init_40 rfl ?_ | refine zz_aload_nN C dX2_init_40 rfl ?_
  refine zz_iconst (v := nI 2) C dX2_init_41 (by decide) ?_
  refine zz_newZ (N := 2) C rfl (by omega) rfl (by decide) dX2_init_42 (fun o42 n42 b42 => ?_)
  refine zz_putF C rfl (by first | assumption | exact zz_us | exact zz_lk1 (by assumption) (by assumption) | exact zz_lk3 (hd _ _ (by decide) (by decide) (by decide)) (by assumption) | exact zz_uf (by assumption) (by assumption) | exact zz_lk3 (zz_xi (by assumption) (by assumption)) (zz_lk1 (by assumption) (by assumption)) | exact zz_lk3 (hd _ _ (by decide) (by decide) (by decide)) (zz_lk3 (hd _ _ (by decide) (by decide) (by decide)) (by assumption)) | (simp only [zz_up]; simp_all; done)) rfl in_X2 tyX2 tyX2_ok nmX2 5 rfl q1235 (fun _ h => h) rfl rfl rfl (tyX2_ok 5 (by decide)) (by first | rfl | exact zz_narZ (by first | exact zz_b01 _ | assumption | decide)) rfl (Nat.le_of_ble_eq_true rfl) dX2_init_44 ?_
  refine zz_gen (P := fun hz => tw_N b0 h x hz (6, [.ref o8, .ref o17, .ref o26, .int (nI 0), .ref o35, .ref o42, .null, .int (nI 0), .null, .int 0, .int 0, .null]) [(o42, .inl (D.1 101, 2, .inl (fun _ => 0))), (o35, .inl (D.1 100, 648, .inl (fun _ => 0))), (o26, .inl (D.1 100, 1944, .inl (fun _ => 0))), (o17, .inl (D.1 100, 324, .inl (fun _ => 0))), (o8, .inl (D.1 100, 324, .inl (fun _ => 0)))]) (hN.s n42 b42) (fun hz hN => ?_)
  have hx := hN.1
  first | refine zz_aload_n C dX2_init_47 rfl ?_ | refine zz_aload_nN C dX2_init_47 rfl ?_
  refine zz_bipush (v := nI 80) C dX2_init_48 (by decide) ?_
  refine zz_newI (N := 80) C rfl (by omega) rfl (by decide) dX2_init_50 (fun o50 n50 b50 => ?_)
  refine zz_putF C rfl (by first | assumption | exact zz_us | exact zz_lk1 (by assumption) (by assumption) | exact zz_lk3 (hd _ _ (by decide) (by decide) (by decide)) (by assumption) | exact zz_uf (by assumption) (by assumption) | exact zz_lk3 (zz_xi (by assumption) (by assumption)) (zz_lk1 (by assumption) (by assumption)) | exact zz_lk3 (hd _ _ (by decide) (by decide) (by decide)) (zz_lk3 (hd _ _ (by decide) (by decide) (by decide)) (by assumption)) | (simp only [zz_up]; simp_all; done)) rfl in_X2 tyX2 tyX2_ok nmX2 6 rfl q1236 (fun _ h => h) rfl rfl rfl (tyX2_ok 6 (by decide)) (by first | rfl | exact zz_narZ (by first | exact zz_b01 _ | assumption | decide)) rfl (Nat.le_of_ble_eq_true rfl) dX2_init_52 ?_
  refine zz_gen (P := fun hz => tw_N b0 h x hz (6, [.ref o8, .ref o17, .ref o26, .int (nI 0), .ref o35, .ref o42, .ref o50, .int (nI 0), .null, .int 0, .int 0, .null]) [(o50, .inl (D.1 100, 80, .inl (fun _ => 0))), (o42, .inl (D.1 101, 2, .inl (fun _ => 0))), (o35, .inl (D.1 100, 648, .inl (fun _ => 0))), (o26, .inl (D.1 100, 1944, .inl (fun _ => 0))), (o17, .inl (D.1 100, 324, .inl (fun _ => 0))), (o8, .inl (D.1 100, 324, .inl (fun _ => 0)))]) (hN.s n50 b50) (fun hz hN => ?_)
  have hx := hN.1
  first | refine zz_aload_n C dX2_init_55 rfl ?_ | refine zz_aload_nN C dX2_init_55 rfl ?_
  refine zz_iconst (v := nI 3) C dX2_init_56 (by decide) ?_
  refine zz_newI (N := 3) C rfl (by omega) rfl (by decide) dX2_init_57 (fun o57 n57 b57 => ?_)
  refine zz_putF C rfl (by first | assumption | exact zz_us | exact zz_lk1 (by assumption) (by assumption) | exact zz_lk3 (hd _ _ (by decide) (by decide) (by decide)) (by assumption) | exact zz_uf (by assumption) (by assumption) | exact zz_lk3 (zz_xi (by assumption) (by assumption)) (zz_lk1 (by assumption) (by assumption)) | exact zz_lk3 (hd _ _ (by decide) (by decide) (by decide)) (zz_lk3 (hd _ _ (by decide) (by decide) (by decide)) (by assumption)) | (simp only [zz_up]; simp_all; done)) rfl in_X2 tyX2 tyX2_ok nmX2 8 rfl q1238 (fun _ h => h) rfl rfl rfl (tyX2_ok 8 (by decide)) (by first | rfl | exact zz_narZ (by first | exact zz_b01 _ | assumption | decide)) rfl (Nat.le_of_ble_eq_true rfl) dX2_init_59 ?_
  refine zz_gen (P := fun hz => tw_N b0 h x hz (6, [.ref o8, .ref o17, .ref o26, .int (nI 0), .ref o35, .ref o42, .ref o50, .int (nI 0), .ref o57, .int 0, .int 0, .null]) [(o57, .inl (D.1 100, 3, .inl (fun _ => 0))), (o50, .inl (D.1 100, 80, .inl (fun _ => 0))), (o42, .inl (D.1 101, 2, .inl (fun _ => 0))), (o35, .inl (D.1 100, 648, .inl (fun _ => 0))), (o26, .inl (D.1 100, 1944, .inl (fun _ => 0))), (o17, .inl (D.1 100, 324, .inl (fun _ => 0))), (o8, .inl (D.1 100, 324, .inl (fun _ => 0)))]) (hN.s n57 b57) (fun hz hN => ?_)
  have hx := hN.1
  first | refine zz_aload_n C dX2_init_62 rfl ?_ | refine zz_aload_nN C dX2_init_62 rfl ?_
  refine zz_iconst (v := nI 5) C dX2_init_63 (by decide) ?_
  refine zz_newI (N := 5) C rfl (by omega) rfl (by decide) dX2_init_64 (fun o64 n64 b64 => ?_)
  refine zz_putF C rfl (by first | assumption | exact zz_us | exact zz_lk1 (by assumption) (by assumption) | exact zz_lk3 (hd _ _ (by decide) (by decide) (by decide)) (by assumption) | exact zz_uf (by assumption) (by assumption) | exact zz_lk3 (zz_xi (by assumption) (by assumption)) (zz_lk1 (by assumption) (by assumption)) | exact zz_lk3 (hd _ _ (by decide) (by decide) (by decide)) (zz_lk3 (hd _ _ (by decide) (by decide) (by decide)) (by assumption)) | (simp only [zz_up]; simp_all; done)) rfl in_X2 tyX2 tyX2_ok nmX2 11 rfl q1241 (fun _ h => h) rfl rfl rfl (tyX2_ok 11 (by decide)) (by first | rfl | exact zz_narZ (by first | exact zz_b01 _ | assumption | decide)) rfl (Nat.le_of_ble_eq_true rfl) dX2_init_66 ?_
  refine zz_gen (P := fun hz => tw_N b0 h x hz (6, [.ref o8, .ref o17, .ref o26, .int (nI 0), .ref o35, .ref o42, .ref o50, .int (nI 0), .ref o57, .int 0, .int 0, .ref o64]) [(o64, .inl (D.1 100, 5, .inl (fun _ => 0))), (o57, .inl (D.1 100, 3, .inl (fun _ => 0))), (o50, .inl (D.1 100, 80, .inl (fun _ => 0))), (o42, .inl (D.1 101, 2, .inl (fun _ => 0))), (o35, .inl (D.1 100, 648, .inl (fun _ => 0))), (o26, .inl (D.1 100, 1944, .inl (fun _ => 0))), (o17, .inl (D.1 100, 324, .inl (fun _ => 0))), (o8, .inl (D.1 100, 324, .inl (fun _ => 0)))]) (hN.s n64 b64) (fun hz hN => ?_)
  have hx := hN.1
  obtain ⟨hX, hF, hfr⟩ := hN.X
  have h0 := hX.2.1
  first | refine zz_aload_n C dX2_init_69 rfl ?_ | refine zz_aload_nN C dX2_init_69 rfl ?_
  refine zz_get C rfl (by first | assumption | exact zz_us | exact zz_lk1 (by assumption) (by assumption) | exact zz_lk3 (hd _ _ (by decide) (by decide) (by decide)) (by assumption) | exact zz_uf (by assumption) (by assumption) | exact zz_lk3 (zz_xi (by assumption) (by assumption)) (zz_lk1 (by assumption) (by assumption)) | exact zz_lk3 (hd _ _ (by decide) (by decide) (by decide)) (zz_lk3 (hd _ _ (by decide) (by decide) (by decide)) (by assumption)) | (simp only [zz_up]; simp_all; done)) rfl in_X2 0 rfl q1230 (fun _ h => h) (by first | rfl | assumption) dX2_init_70 ?_
  refine zz_iconst (v := nI 0) C dX2_init_73 (by decide) ?_
  refine zz_iconst (v := 2) C dX2_init_74 (by decide) ?_
  first | refine zz_iast2 C rfl (by omega) (by omega) dX2_init_75 ?_ | refine zz_iast C (by first | assumption | exact zz_us | exact zz_lk1 (by assumption) (by assumption) | exact zz_lk3 (hd _ _ (by decide) (by decide) (by decide)) (by assumption) | exact zz_uf (by assumption) (by assumption) | exact zz_lk3 (zz_xi (by assumption) (by assumption)) (zz_lk1 (by assumption) (by assumption)) | exact zz_lk3 (hd _ _ (by decide) (by decide) (by decide)) (zz_lk3 (hd _ _ (by decide) (by decide) (by decide)) (by assumption)) | (simp only [zz_up]; simp_all; done)) rfl (by omega) (by omega) dX2_init_75 ?_
  first | refine zz_aload_n C dX2_init_76 rfl ?_ | refine zz_aload_nN C dX2_init_76 rfl ?_
  refine zz_get C rfl (by first | assumption | exact zz_us | exact zz_lk1 (by assumption) (by assumption) | exact zz_lk3 (hd _ _ (by decide) (by decide) (by decide)) (by assumption) | exact zz_uf (by assumption) (by assumption) | exact zz_lk3 (zz_xi (by assumption) (by assumption)) (zz_lk1 (by assumption) (by assumption)) | exact zz_lk3 (hd _ _ (by decide) (by decide) (by decide)) (zz_lk3 (hd _ _ (by decide) (by decide) (by decide)) (by assumption)) | (simp only [zz_up]; simp_all; done)) rfl in_X2 0 rfl q1230 (fun _ h => h) (by first | rfl | assumption) dX2_init_77 ?_
  refine zz_iconst (v := nI 1) C dX2_init_80 (by decide) ?_
  refine zz_bipush (v := 12) C dX2_init_81 (by decide) ?_
  first | refine zz_iast2 C rfl (by omega) (by omega) dX2_init_83 ?_ | refine zz_iast C (by first | assumption | exact zz_us | exact zz_lk1 (by assumption) (by assumption) | exact zz_lk3 (hd _ _ (by decide) (by decide) (by decide)) (by assumption) | exact zz_uf (by assumption) (by assumption) | exact zz_lk3 (zz_xi (by assumption) (by assumption)) (zz_lk1 (by assumption) (by assumption)) | exact zz_lk3 (hd _ _ (by decide) (by decide) (by decide)) (zz_lk3 (hd _ _ (by decide) (by decide) (by decide)) (by assumption)) | (simp only [zz_up]; simp_all; done)) rfl (by omega) (by omega) dX2_init_83 ?_
  first | refine zz_aload_n C dX2_init_84 rfl ?_ | refine zz_aload_nN C dX2_init_84 rfl ?_
  refine zz_get C rfl (by first | assumption | exact zz_us | exact zz_lk1 (by assumption) (by assumption) | exact zz_lk3 (hd _ _ (by decide) (by decide) (by decide)) (by assumption) | exact zz_uf (by assumption) (by assumption) | exact zz_lk3 (zz_xi (by assumption) (by assumption)) (zz_lk1 (by assumption) (by assumption)) | exact zz_lk3 (hd _ _ (by decide) (by decide) (by decide)) (zz_lk3 (hd _ _ (by decide) (by decide) (by decide)) (by assumption)) | (simp only [zz_up]; simp_all; done)) rfl in_X2 0 rfl q1230 (fun _ h => h) (by first | rfl | assumption) dX2_init_85 ?_
  refine zz_iconst (v := nI 2) C dX2_init_88 (by decide) ?_
  refine zz_bipush (v := (-3)) C dX2_init_89 (by decide) ?_
  first | refine zz_iast2 C rfl (by omega) (by omega) dX2_init_91 ?_ | refine zz_iast C (by first | assumption | exact zz_us | exact zz_lk1 (by assumption) (by assumption) | exact zz_lk3 (hd _ _ (by decide) (by decide) (by decide)) (by assumption) | exact zz_uf (by assumption) (by assumption) | exact zz_lk3 (zz_xi (by assumption) (by assumption)) (zz_lk1 (by assumption) (by assumption)) | exact zz_lk3 (hd _ _ (by decide) (by decide) (by decide)) (zz_lk3 (hd _ _ (by decide) (by decide) (by decide)) (by assumption)) | (simp only [zz_up]; simp_all; done)) rfl (by omega) (by omega) dX2_init_91 ?_
  first | refine zz_aload_n C dX2_init_92 rfl ?_ | refine zz_aload_nN C dX2_init_92 rfl ?_
  refine zz_get C rfl (by first | assumption | exact zz_us | exact zz_lk1 (by assumption) (by assumption) | exact zz_lk3 (hd _ _ (by decide) (by decide) (by decide)) (by assumption) | exact zz_uf (by assumption) (by assumption) | exact zz_lk3 (zz_xi (by assumption) (by assumption)) (zz_lk1 (by assumption) (by assumption)) | exact zz_lk3 (hd _ _ (by decide) (by decide) (by decide)) (zz_lk3 (hd _ _ (by decide) (by decide) (by decide)) (by assumption)) | (simp only [zz_up]; simp_all; done)) rfl in_X2 0 rfl q1230 (fun _ h => h) (by first | rfl | assumption) dX2_init_93 ?_
  refine zz_iconst (v := nI 3) C dX2_init_96 (by decide) ?_
  refine zz_iconst (v := 5) C dX2_init_97 (by decide) ?_
  first | refine zz_iast2 C rfl (by omega) (by omega) dX2_init_98 ?_ | refine zz_iast C (by first | assumption | exact zz_us | exact zz_lk1 (by assumption) (by assumption) | exact zz_lk3 (hd _ _ (by decide) (by decide) (by decide)) (by assumption) | exact zz_uf (by assumption) (by assumption) | exact zz_lk3 (zz_xi (by assumption) (by assumption)) (zz_lk1 (by assumption) (by assumption)) | exact zz_lk3 (hd _ _ (by decide) (by decide) (by decide)) (zz_lk3 (hd _ _ (by decide) (by decide) (by decide)) (by assumption)) | (simp only [zz_up]; simp_all; done)) rfl (by omega) (by omega) dX2_init_98 ?_
  refine zz_iconst (v := 0) C dX2_init_99 (by decide) ?_
  refine zz_istore_n C dX2_init_100 (by decide) ?_
  have L101 : ∀ (n : Nat) (i : Nat), i ≤ 3 → 4 ≤ i + n → zz_V D b0 2 p l e ({ frames := 1, cells := 8, slots := 3330, locals := 21 } : Jvm.Room) s m ([.ref x] : List Value).toArray below meth c (MQ below (zz_Q D b0 (fun v h' => v = none ∧ tw_B D b0 h h' x)) ([.ref x] : List Value).toArray s 8 3330 (fun q => b0 ≤ q)) 8 3330 (zz_up hz (tw_ad o8 o17 o26 o35 o42 o50 o57 o64 0) (.inl (D.1 100, 324, .inl (tw_il i)))) [(0, .ref x), (1, .int (nI i))] 101 [] := by
    intro n
    induction n with
    | zero =>
      intro i h1 h2
      exact absurd h2 (by omega)
    | succ n ih =>
      intro i h1 h2
      refine zz_iload_n C dX2_init_101 rfl ?_
      refine zz_iconst (v := 3) C dX2_init_102 (by decide) ?_
      refine zz_icmp_ge (tgt := 151) C dX2_init_103 (by decide) (fun c103 => ?_) (fun c103 => ?_)
      · have hi2 : 3 ≤ i := (nI_leI (a := 3) (by omega) (by omega)).mp c103
        obtain rfl : i = 3 := by omega
        refine zz_vret C dX2_init_151 rfl rfl ?_
        exact ⟨rfl, (tw_ad o8 o17 o26 o35 o42 o50 o57 o64), hX.u0 _, hF.tr (tw_F.up 0 (by decide)), hfr⟩
      · have hi2 : i < 3 := Nat.not_le.mp (fun q => c103 (nI_le (a := 3) q (by omega)))
        first | refine zz_aload_n C dX2_init_106 rfl ?_ | refine zz_aload_nN C dX2_init_106 rfl ?_
        refine zz_get C rfl (by first | assumption | exact zz_us | exact zz_lk1 (by assumption) (by assumption) | exact zz_lk3 (hd _ _ (by decide) (by decide) (by decide)) (by assumption) | exact zz_uf (by assumption) (by assumption) | exact zz_lk3 (zz_xi (by assumption) (by assumption)) (zz_lk1 (by assumption) (by assumption)) | exact zz_lk3 (hd _ _ (by decide) (by decide) (by decide)) (zz_lk3 (hd _ _ (by decide) (by decide) (by decide)) (by assumption)) | (simp only [zz_up]; simp_all; done)) rfl in_X2 0 rfl q1230 (fun _ h => h) (by first | rfl | assumption) dX2_init_107 ?_
        refine zz_iload_n C dX2_init_110 rfl ?_
        refine zz_iconst (v := nI 0) C dX2_init_111 (by decide) ?_
        refine zz_callS C zy_X2_ofLorryAt (ct_X2_ofLorryAt i 0 rfl rfl) rfl q1227 rfl rfl rfl rfl rfl dX2_init_112 ⟨Nat.le_of_ble_eq_true rfl, Nat.le_of_ble_eq_true rfl⟩ (fun v hz hp => ?_)
        obtain ⟨rfl, ez⟩ := hp
        obtain rfl := ez.symm
        refine zz_sipush (v := 4000) C dX2_init_115 (by decide) ?_
        first | refine zz_iast2 C rfl (by omega) (by omega) dX2_init_118 ?_ | refine zz_iast C (by first | assumption | exact zz_us | exact zz_lk1 (by assumption) (by assumption) | exact zz_lk3 (hd _ _ (by decide) (by decide) (by decide)) (by assumption) | exact zz_uf (by assumption) (by assumption) | exact zz_lk3 (zz_xi (by assumption) (by assumption)) (zz_lk1 (by assumption) (by assumption)) | exact zz_lk3 (hd _ _ (by decide) (by decide) (by decide)) (zz_lk3 (hd _ _ (by decide) (by decide) (by decide)) (by assumption)) | (simp only [zz_up]; simp_all; done)) rfl (by omega) (by omega) dX2_init_118 ?_
        first | refine zz_aload_n C dX2_init_119 rfl ?_ | refine zz_aload_nN C dX2_init_119 rfl ?_
        refine zz_get C rfl (by first | assumption | exact zz_us | exact zz_lk1 (by assumption) (by assumption) | exact zz_lk3 (hd _ _ (by decide) (by decide) (by decide)) (by assumption) | exact zz_uf (by assumption) (by assumption) | exact zz_lk3 (zz_xi (by assumption) (by assumption)) (zz_lk1 (by assumption) (by assumption)) | exact zz_lk3 (hd _ _ (by decide) (by decide) (by decide)) (zz_lk3 (hd _ _ (by decide) (by decide) (by decide)) (by assumption)) | (simp only [zz_up]; simp_all; done)) rfl in_X2 0 rfl q1230 (fun _ h => h) (by first | rfl | assumption) dX2_init_120 ?_
        refine zz_iload_n C dX2_init_123 rfl ?_
        refine zz_iconst (v := nI 1) C dX2_init_124 (by decide) ?_
        refine zz_callS C zy_X2_ofLorryAt (ct_X2_ofLorryAt i 1 rfl rfl) rfl q1227 rfl rfl rfl rfl rfl dX2_init_125 ⟨Nat.le_of_ble_eq_true rfl, Nat.le_of_ble_eq_true rfl⟩ (fun v hz hp => ?_)
        obtain ⟨rfl, ez⟩ := hp
        obtain rfl := ez.symm
        refine zz_sipush (v := 8000) C dX2_init_128 (by decide) ?_
        first | refine zz_iast2 C rfl (by omega) (by omega) dX2_init_131 ?_ | refine zz_iast C (by first | assumption | exact zz_us | exact zz_lk1 (by assumption) (by assumption) | exact zz_lk3 (hd _ _ (by decide) (by decide) (by decide)) (by assumption) | exact zz_uf (by assumption) (by assumption) | exact zz_lk3 (zz_xi (by assumption) (by assumption)) (zz_lk1 (by assumption) (by assumption)) | exact zz_lk3 (hd _ _ (by decide) (by decide) (by decide)) (zz_lk3 (hd _ _ (by decide) (by decide) (by decide)) (by assumption)) | (simp only [zz_up]; simp_all; done)) rfl (by omega) (by omega) dX2_init_131 ?_
        first | refine zz_aload_n C dX2_init_132 rfl ?_ | refine zz_aload_nN C dX2_init_132 rfl ?_
        refine zz_get C rfl (by first | assumption | exact zz_us | exact zz_lk1 (by assumption) (by assumption) | exact zz_lk3 (hd _ _ (by decide) (by decide) (by decide)) (by assumption) | exact zz_uf (by assumption) (by assumption) | exact zz_lk3 (zz_xi (by assumption) (by assumption)) (zz_lk1 (by assumption) (by assumption)) | exact zz_lk3 (hd _ _ (by decide) (by decide) (by decide)) (zz_lk3 (hd _ _ (by decide) (by decide) (by decide)) (by assumption)) | (simp only [zz_up]; simp_all; done)) rfl in_X2 0 rfl q1230 (fun _ h => h) (by first | rfl | assumption) dX2_init_133 ?_
        refine zz_iload_n C dX2_init_136 rfl ?_
        refine zz_iconst (v := nI 2) C dX2_init_137 (by decide) ?_
        refine zz_callS C zy_X2_ofLorryAt (ct_X2_ofLorryAt i 2 rfl rfl) rfl q1227 rfl rfl rfl rfl rfl dX2_init_138 ⟨Nat.le_of_ble_eq_true rfl, Nat.le_of_ble_eq_true rfl⟩ (fun v hz hp => ?_)
        obtain ⟨rfl, ez⟩ := hp
        obtain rfl := ez.symm
        refine zz_sipush (v := 10000) C dX2_init_141 (by decide) ?_
        first | refine zz_iast2 C rfl (by omega) (by omega) dX2_init_144 ?_ | refine zz_iast C (by first | assumption | exact zz_us | exact zz_lk1 (by assumption) (by assumption) | exact zz_lk3 (hd _ _ (by decide) (by decide) (by decide)) (by assumption) | exact zz_uf (by assumption) (by assumption) | exact zz_lk3 (zz_xi (by assumption) (by assumption)) (zz_lk1 (by assumption) (by assumption)) | exact zz_lk3 (hd _ _ (by decide) (by decide) (by decide)) (zz_lk3 (hd _ _ (by decide) (by decide) (by decide)) (by assumption)) | (simp only [zz_up]; simp_all; done)) rfl (by omega) (by omega) dX2_init_144 ?_
        refine zz_iinc C dX2_init_145 rfl (by first | exact nI_1 _ | exact (rfl : _ + Int32.ofInt 1 = _ + 1)) (by decide) ?_
        refine zz_goto (tgt := 101) C dX2_init_148 (by decide) ?_
        exact zz_loc2 (ih (i + 1) (by omega) (by omega)) ⟨rfl, rfl, trivial⟩
  exact zz_loc2 (L101 4 0 (by omega) (by omega)) ⟨rfl, rfl, trivial⟩

