/-! the twin: nights, loads, orders, gives -/
theorem zz_h0 {D : va_G} {h : zz_H} {x : Nat} {ad : Nat → Nat} {a ah hi : Nat → Int32} {kp : Nat} {sl sv pd : Nat → Int32} {len : Nat} {so : Nat → Int32} {pos wr : Int32} {to : Nat → Int32} (H : tw_X D h x ad a ah hi kp sl sv pd len so pos wr to) : h (ad 0) = some (.inl (D.1 100, 324, .inl a)) := H.2.1
theorem ct_X2_nights {l : Launch} {D : va_G} {b0 : Nat} {h : zz_H} {x s0 : Nat} {a : Nat → Int32} {v0 : Int32} (nb : Nat) (h5 : a 5 = nI nb) (hnb : nb ≤ 24) (hM : tw_M D h x s0 a) : zz_Ct l D b0 yX2_nights cX2_nights 5 (some .int) 3 64 0 0 [.ref x, .int v0] h (fun v h' => v = some (.int (op_nights a v0).1) ∧ h' = zz_up h s0 (.inl (D.1 100, 324, .inl (op_nights a v0).2))) := by
  refine zz_Ct.of zy_X2_nights.1 rfl ?_
  intro p e s m below meth c C
  have hM0 := hM
  obtain ⟨fs, hx, hf0, hs⟩ := hM0
  have hn5 : (a 5).toNatClampNeg = nb := by rw [h5]; exact nI_clamp (by omega)
  refine zz_iload_n C dX2_nights_0 rfl ?_
  refine zz_bipush (v := (-40)) C dX2_nights_1 (by decide) ?_
  refine zz_bipush (v := 40) C dX2_nights_3 (by decide) ?_
  refine zz_callS C zy_X2_in (ct_X2_in) rfl q1272 rfl rfl rfl rfl rfl dX2_nights_5 ⟨Nat.le_of_ble_eq_true rfl, Nat.le_of_ble_eq_true rfl⟩ (fun v hz hp => ?_)
  obtain ⟨rfl, ez⟩ := hp
  obtain rfl := ez.symm
  first | refine zz_ifb_ne (tgt := 14) C dX2_nights_8 (by decide) (fun c8 => ?_) (fun c8 => ?_) | refine zz_if_ne (tgt := 14) C dX2_nights_8 (by decide) (fun c8 => ?_) (fun c8 => ?_)
  · first | refine zz_aload_n C dX2_nights_14 rfl ?_ | refine zz_aload_nN C dX2_nights_14 rfl ?_
    refine zz_get C rfl (by first | assumption | exact zz_us | exact zz_lk1 (by assumption) (by assumption) | exact zz_lk3 (hd _ _ (by decide) (by decide) (by decide)) (by assumption) | exact zz_uf (by assumption) (by assumption) | (simp only [zz_up]; simp_all; done)) rfl in_X2 0 rfl q1230 (fun _ h => h) (by first | rfl | assumption) dX2_nights_15 ?_
    refine zz_iconst (v := nI 4) C dX2_nights_18 (by decide) ?_
    refine zz_iald C (by first | assumption | exact zz_us | exact zz_lk1 (by assumption) (by assumption) | exact zz_lk3 (hd _ _ (by decide) (by decide) (by decide)) (by assumption) | exact zz_uf (by assumption) (by assumption) | (simp only [zz_up]; simp_all; done)) rfl (by omega) (by omega) dX2_nights_19 ?_
    refine zz_sipush (v := 999) C dX2_nights_20 (by decide) ?_
    refine zz_icmp_ne (tgt := 29) C dX2_nights_23 (by decide) (fun c23 => ?_) (fun c23 => ?_)
    · first | refine zz_aload_n C dX2_nights_29 rfl ?_ | refine zz_aload_nN C dX2_nights_29 rfl ?_
      refine zz_get C rfl (by first | assumption | exact zz_us | exact zz_lk1 (by assumption) (by assumption) | exact zz_lk3 (hd _ _ (by decide) (by decide) (by decide)) (by assumption) | exact zz_uf (by assumption) (by assumption) | (simp only [zz_up]; simp_all; done)) rfl in_X2 0 rfl q1230 (fun _ h => h) (by first | rfl | assumption) dX2_nights_30 ?_
      refine zz_bipush (v := nI 7) C dX2_nights_33 (by decide) ?_
      refine zz_joinI (pcJ := 50) (if v0 ≤ a 2 then 1 else 0) ?_ ?_
      · rintro z50 rfl
        first | refine zz_iast2 C rfl (by omega) (by omega) dX2_nights_50 ?_ | refine zz_iast C (by first | assumption | exact zz_us | exact zz_lk1 (by assumption) (by assumption) | exact zz_lk3 (hd _ _ (by decide) (by decide) (by decide)) (by assumption) | exact zz_uf (by assumption) (by assumption) | (simp only [zz_up]; simp_all; done)) rfl (by omega) (by omega) dX2_nights_50 ?_
        refine zz_iconst (v := 0) C dX2_nights_51 (by decide) ?_
        refine zz_istore_n C dX2_nights_52 (by decide) ?_
        refine zz_iconst (v := 0) C dX2_nights_53 (by decide) ?_
        refine zz_istore_n C dX2_nights_54 (by decide) ?_
        have L55 : ∀ (n : Nat) (i : Nat), i ≤ nb → nb + 1 ≤ i + n → zz_V D b0 5 p l e ({ frames := 3, cells := 0, slots := 0, locals := 64 } : Jvm.Room) s m ([.ref x, .int v0] : List Value).toArray below meth c (MQ below (zz_Q D b0 (fun v h' => v = some (.int (op_nights a v0).1) ∧ h' = zz_up h s0 (.inl (D.1 100, 324, .inl (op_nights a v0).2)))) ([.ref x, .int v0] : List Value).toArray s 0 0 (fun q => b0 ≤ q)) 0 0 (zz_up h s0 (.inl (D.1 100, 324, .inl ((qa_nt (upd a 7 (if v0 ≤ a 2 then 1 else 0)) i).2)))) [(0, .ref x), (1, .int v0), (2, .int (qa_nt (upd a 7 (if v0 ≤ a 2 then 1 else 0)) i).1), (3, .int (nI i))] 55 [] := by
          intro n
          induction n with
          | zero =>
            intro i h1 h2
            exact absurd h2 (by omega)
          | succ n ih =>
            intro i h1 h2
            have e5 : (qa_nt (upd a 7 (if v0 ≤ a 2 then 1 else 0)) i).2 5 = nI nb := by rw [qa_nt_o (by omega), up_n (by omega), h5]
            refine zz_iload_n C dX2_nights_55 rfl ?_
            first | refine zz_aload_n C dX2_nights_56 rfl ?_ | refine zz_aload_nN C dX2_nights_56 rfl ?_
            refine zz_get C rfl (by first | assumption | exact zz_us | exact zz_lk1 (by assumption) (by assumption) | exact zz_lk3 (hd _ _ (by decide) (by decide) (by decide)) (by assumption) | exact zz_uf (by assumption) (by assumption) | (simp only [zz_up]; simp_all; done)) rfl in_X2 0 rfl q1230 (fun _ h => h) (by first | rfl | assumption) dX2_nights_57 ?_
            refine zz_iconst (v := nI 5) C dX2_nights_60 (by decide) ?_
            refine zz_iald C (by first | assumption | exact zz_us | exact zz_lk1 (by assumption) (by assumption) | exact zz_lk3 (hd _ _ (by decide) (by decide) (by decide)) (by assumption) | exact zz_uf (by assumption) (by assumption) | (simp only [zz_up]; simp_all; done)) rfl (by omega) (by omega) dX2_nights_61 ?_
            refine zz_icmp_ge (tgt := 190) C dX2_nights_62 (by decide) (fun c62 => ?_) (fun c62 => ?_)
            · have hi2 : nb ≤ i := (nI_leI (by omega) (by omega)).mp (by rw [← e5]; exact c62)
              obtain rfl : i = nb := by omega
              first | refine zz_aload_n C dX2_nights_190 rfl ?_ | refine zz_aload_nN C dX2_nights_190 rfl ?_
              refine zz_get C rfl (by first | assumption | exact zz_us | exact zz_lk1 (by assumption) (by assumption) | exact zz_lk3 (hd _ _ (by decide) (by decide) (by decide)) (by assumption) | exact zz_uf (by assumption) (by assumption) | (simp only [zz_up]; simp_all; done)) rfl in_X2 0 rfl q1230 (fun _ h => h) (by first | rfl | assumption) dX2_nights_191 ?_
              refine zz_iconst (v := nI 4) C dX2_nights_194 (by decide) ?_
              refine zz_dup2 C dX2_nights_195 rfl rfl ?_
              refine zz_iald C (by first | assumption | exact zz_us | exact zz_lk1 (by assumption) (by assumption) | exact zz_lk3 (hd _ _ (by decide) (by decide) (by decide)) (by assumption) | exact zz_uf (by assumption) (by assumption) | (simp only [zz_up]; simp_all; done)) rfl (by omega) (by omega) dX2_nights_196 ?_
              refine zz_iconst (v := 1) C dX2_nights_197 (by decide) ?_
              refine zz_iadd C dX2_nights_198 ?_
              first | refine zz_iast2 C rfl (by omega) (by omega) dX2_nights_199 ?_ | refine zz_iast C (by first | assumption | exact zz_us | exact zz_lk1 (by assumption) (by assumption) | exact zz_lk3 (hd _ _ (by decide) (by decide) (by decide)) (by assumption) | exact zz_uf (by assumption) (by assumption) | (simp only [zz_up]; simp_all; done)) rfl (by omega) (by omega) dX2_nights_199 ?_
              refine zz_iload_n C dX2_nights_200 rfl ?_
              refine zz_iret C dX2_nights_201 rfl rfl ?_
              refine ⟨?_, ?_⟩
              · first | (simp_all [op_nights, -Int32.not_le, -Int32.not_lt]; done) | (simp_all [op_nights, -Int32.not_le, -Int32.not_lt]; rfl)
              · first | (simp_all [op_nights, -Int32.not_le, -Int32.not_lt, zz_upsame]; done) | (simp_all [op_nights, -Int32.not_le, -Int32.not_lt, zz_upsame]; rfl)
            · have hi2 : i < nb := Nat.not_le.mp (fun q => c62 (by rw [e5]; exact nI_le q (by omega)))
              refine zz_joinI (pcJ := 89) (zz_b (qa_cr ((qa_nt (upd a 7 (if v0 ≤ a 2 then 1 else 0)) i).2) i)) ?_ ?_
              · rintro z89 rfl
                refine zz_istore C dX2_nights_89 (by decide) ?_
                first | refine zz_aload_n C dX2_nights_91 rfl ?_ | refine zz_aload_nN C dX2_nights_91 rfl ?_
                refine zz_get C rfl (by first | assumption | exact zz_us | exact zz_lk1 (by assumption) (by assumption) | exact zz_lk3 (hd _ _ (by decide) (by decide) (by decide)) (by assumption) | exact zz_uf (by assumption) (by assumption) | (simp only [zz_up]; simp_all; done)) rfl in_X2 0 rfl q1230 (fun _ h => h) (by first | rfl | assumption) dX2_nights_92 ?_
                refine zz_iload_n C dX2_nights_95 rfl ?_
                refine zz_bipush (v := nI 6) C dX2_nights_96 (by decide) ?_
                refine zz_callS C zy_X2_at (ct_X2_at i 6 rfl rfl) rfl q1310 rfl rfl rfl rfl rfl dX2_nights_98 ⟨Nat.le_of_ble_eq_true rfl, Nat.le_of_ble_eq_true rfl⟩ (fun v hz hp => ?_)
                obtain ⟨rfl, ez⟩ := hp
                obtain rfl := ez.symm
                refine zz_joinI (pcJ := 121) (if qa_cr ((qa_nt (upd a 7 (if v0 ≤ a 2 then 1 else 0)) i).2) i = true then 1 else (qa_nt (upd a 7 (if v0 ≤ a 2 then 1 else 0)) i).2 (12 + 10 * i + 6)) ?_ ?_
                · rintro z121 rfl
                  first | refine zz_iast2 C rfl (by omega) (by omega) dX2_nights_121 ?_ | refine zz_iast C (by first | assumption | exact zz_us | exact zz_lk1 (by assumption) (by assumption) | exact zz_lk3 (hd _ _ (by decide) (by decide) (by decide)) (by assumption) | exact zz_uf (by assumption) (by assumption) | (simp only [zz_up]; simp_all; done)) rfl (by omega) (by omega) dX2_nights_121 ?_
                  rw [show upd ((qa_nt (upd a 7 (if v0 ≤ a 2 then 1 else 0)) i).2) (12 + 10 * i + 6) (if qa_cr ((qa_nt (upd a 7 (if v0 ≤ a 2 then 1 else 0)) i).2) i = true then 1 else (qa_nt (upd a 7 (if v0 ≤ a 2 then 1 else 0)) i).2 (12 + 10 * i + 6)) = qa_n1 ((qa_nt (upd a 7 (if v0 ≤ a 2 then 1 else 0)) i).2) i from rfl]
                  refine zz_iload_n C dX2_nights_122 rfl ?_
                  refine zz_joinI (pcJ := 133) (zz_b (qa_cr ((qa_nt (upd a 7 (if v0 ≤ a 2 then 1 else 0)) i).2) i)) ?_ ?_
                  · rintro z133 rfl
                    refine zz_iadd C dX2_nights_133 ?_
                    refine zz_istore_n C dX2_nights_134 (by decide) ?_
                    first | refine zz_aload_n C dX2_nights_135 rfl ?_ | refine zz_aload_nN C dX2_nights_135 rfl ?_
                    refine zz_get C rfl (by first | assumption | exact zz_us | exact zz_lk1 (by assumption) (by assumption) | exact zz_lk3 (hd _ _ (by decide) (by decide) (by decide)) (by assumption) | exact zz_uf (by assumption) (by assumption) | (simp only [zz_up]; simp_all; done)) rfl in_X2 0 rfl q1230 (fun _ h => h) (by first | rfl | assumption) dX2_nights_136 ?_
                    refine zz_iload_n C dX2_nights_139 rfl ?_
                    refine zz_iconst (v := nI 5) C dX2_nights_140 (by decide) ?_
                    refine zz_callS C zy_X2_at (ct_X2_at i 5 rfl rfl) rfl q1310 rfl rfl rfl rfl rfl dX2_nights_141 ⟨Nat.le_of_ble_eq_true rfl, Nat.le_of_ble_eq_true rfl⟩ (fun v hz hp => ?_)
                    obtain ⟨rfl, ez⟩ := hp
                    obtain rfl := ez.symm
                    refine zz_dup2 C dX2_nights_144 rfl rfl ?_
                    refine zz_iald C (by first | assumption | exact zz_us | exact zz_lk1 (by assumption) (by assumption) | exact zz_lk3 (hd _ _ (by decide) (by decide) (by decide)) (by assumption) | exact zz_uf (by assumption) (by assumption) | (simp only [zz_up]; simp_all; done)) rfl (by omega) (by omega) dX2_nights_145 ?_
                    refine zz_joinI (pcJ := 182) (if qa_dry (qa_n1 ((qa_nt (upd a 7 (if v0 ≤ a 2 then 1 else 0)) i).2) i) i = true then 1 else 0) ?_ ?_
                    · rintro z182 rfl
                      refine zz_isub C dX2_nights_182 ?_
                      first | refine zz_iast2 C rfl (by omega) (by omega) dX2_nights_183 ?_ | refine zz_iast C (by first | assumption | exact zz_us | exact zz_lk1 (by assumption) (by assumption) | exact zz_lk3 (hd _ _ (by decide) (by decide) (by decide)) (by assumption) | exact zz_uf (by assumption) (by assumption) | (simp only [zz_up]; simp_all; done)) rfl (by omega) (by omega) dX2_nights_183 ?_
                      refine zz_iinc C dX2_nights_184 rfl (by first | exact nI_1 _ | exact (rfl : _ + Int32.ofInt 1 = _ + 1)) (by decide) ?_
                      refine zz_goto (tgt := 55) C dX2_nights_187 (by decide) ?_
                      exact zz_loc2 (ih (i + 1) (by omega) (by omega)) ⟨rfl, rfl, rfl, rfl, trivial⟩
                    · intro J182
                      first | refine zz_aload_n C dX2_nights_146 rfl ?_ | refine zz_aload_nN C dX2_nights_146 rfl ?_
                      refine zz_get C rfl (by first | assumption | exact zz_us | exact zz_lk1 (by assumption) (by assumption) | exact zz_lk3 (hd _ _ (by decide) (by decide) (by decide)) (by assumption) | exact zz_uf (by assumption) (by assumption) | (simp only [zz_up]; simp_all; done)) rfl in_X2 0 rfl q1230 (fun _ h => h) (by first | rfl | assumption) dX2_nights_147 ?_
                      refine zz_iload_n C dX2_nights_150 rfl ?_
                      refine zz_iconst (v := nI 5) C dX2_nights_151 (by decide) ?_
                      refine zz_callS C zy_X2_at (ct_X2_at i 5 rfl rfl) rfl q1310 rfl rfl rfl rfl rfl dX2_nights_152 ⟨Nat.le_of_ble_eq_true rfl, Nat.le_of_ble_eq_true rfl⟩ (fun v hz hp => ?_)
                      obtain ⟨rfl, ez⟩ := hp
                      obtain rfl := ez.symm
                      refine zz_iald C (by first | assumption | exact zz_us | exact zz_lk1 (by assumption) (by assumption) | exact zz_lk3 (hd _ _ (by decide) (by decide) (by decide)) (by assumption) | exact zz_uf (by assumption) (by assumption) | (simp only [zz_up]; simp_all; done)) rfl (by omega) (by omega) dX2_nights_155 ?_
                      refine zz_if_le (tgt := 181) C dX2_nights_156 (by decide) (fun c156 => ?_) (fun c156 => ?_)
                      · refine zz_iconst (v := 0) C dX2_nights_181 (by decide) ?_
                        exact J182 _ (by first | exact zz_ift (by clear ih; simp_all [qa_dry, -Int32.not_le, -Int32.not_lt]; done) | exact zz_iff (by clear ih; simp_all [qa_dry, -Int32.not_le, -Int32.not_lt]; done))
                      · first | refine zz_aload_n C dX2_nights_159 rfl ?_ | refine zz_aload_nN C dX2_nights_159 rfl ?_
                        refine zz_iload_n C dX2_nights_160 rfl ?_
                        refine zz_iconst (v := 3) C dX2_nights_161 (by decide) ?_
                        refine zz_callV C zy_X2_isAt (ct_X2_isAt (a := qa_n1 ((qa_nt (upd a 7 (if v0 ≤ a 2 then 1 else 0)) i).2) i) i rfl (by omega) ⟨fs, zz_lk1 hx hs, hf0, zz_us⟩) rfl q1333 (by first | assumption | exact zz_us | exact zz_lk1 (by assumption) (by assumption) | exact zz_lk3 (hd _ _ (by decide) (by decide) (by decide)) (by assumption) | exact zz_uf (by assumption) (by assumption) | (simp only [zz_up]; simp_all; done)) rfl rfl rfl rfl rfl rfl dX2_nights_162 ⟨Nat.le_of_ble_eq_true rfl, Nat.le_of_ble_eq_true rfl⟩ (fun v hz hp => ?_)
                        obtain ⟨rfl, ez⟩ := hp
                        obtain rfl := ez.symm
                        first | refine zz_ifb_ne (tgt := 181) C dX2_nights_165 (by decide) (fun c165 => ?_) (fun c165 => ?_) | refine zz_if_ne (tgt := 181) C dX2_nights_165 (by decide) (fun c165 => ?_) (fun c165 => ?_)
                        · refine zz_iconst (v := 0) C dX2_nights_181 (by decide) ?_
                          exact J182 _ (by first | exact zz_ift (by clear ih; simp_all [qa_dry, -Int32.not_le, -Int32.not_lt]; done) | exact zz_iff (by clear ih; simp_all [qa_dry, -Int32.not_le, -Int32.not_lt]; done))
                        · first | refine zz_aload_n C dX2_nights_168 rfl ?_ | refine zz_aload_nN C dX2_nights_168 rfl ?_
                          refine zz_iload_n C dX2_nights_169 rfl ?_
                          refine zz_iconst (v := 4) C dX2_nights_170 (by decide) ?_
                          refine zz_callV C zy_X2_isAt (ct_X2_isAt (a := qa_n1 ((qa_nt (upd a 7 (if v0 ≤ a 2 then 1 else 0)) i).2) i) i rfl (by omega) ⟨fs, zz_lk1 hx hs, hf0, zz_us⟩) rfl q1333 (by first | assumption | exact zz_us | exact zz_lk1 (by assumption) (by assumption) | exact zz_lk3 (hd _ _ (by decide) (by decide) (by decide)) (by assumption) | exact zz_uf (by assumption) (by assumption) | (simp only [zz_up]; simp_all; done)) rfl rfl rfl rfl rfl rfl dX2_nights_171 ⟨Nat.le_of_ble_eq_true rfl, Nat.le_of_ble_eq_true rfl⟩ (fun v hz hp => ?_)
                          obtain ⟨rfl, ez⟩ := hp
                          obtain rfl := ez.symm
                          first | refine zz_ifb_ne (tgt := 181) C dX2_nights_174 (by decide) (fun c174 => ?_) (fun c174 => ?_) | refine zz_if_ne (tgt := 181) C dX2_nights_174 (by decide) (fun c174 => ?_) (fun c174 => ?_)
                          · refine zz_iconst (v := 0) C dX2_nights_181 (by decide) ?_
                            exact J182 _ (by first | exact zz_ift (by clear ih; simp_all [qa_dry, -Int32.not_le, -Int32.not_lt]; done) | exact zz_iff (by clear ih; simp_all [qa_dry, -Int32.not_le, -Int32.not_lt]; done))
                          · refine zz_iconst (v := 1) C dX2_nights_177 (by decide) ?_
                            refine zz_goto (tgt := 182) C dX2_nights_178 (by decide) ?_
                            exact J182 _ (by first | exact zz_ift (by clear ih; simp_all [qa_dry, -Int32.not_le, -Int32.not_lt]; done) | exact zz_iff (by clear ih; simp_all [qa_dry, -Int32.not_le, -Int32.not_lt]; done))
                  · intro J133
                    refine zz_iload C dX2_nights_123 rfl ?_
                    first | refine zz_ifb_eq (tgt := 132) C dX2_nights_125 (by decide) (fun c125 => ?_) (fun c125 => ?_) | refine zz_if_eq (tgt := 132) C dX2_nights_125 (by decide) (fun c125 => ?_) (fun c125 => ?_)
                    · refine zz_iconst (v := 0) C dX2_nights_132 (by decide) ?_
                      exact J133 _ (by first | exact zz_bt ‹_› | exact zz_bf ‹_› | rfl | (simp_all [zz_b, qa_cr, qa_dry, -Int32.not_le, -Int32.not_lt]; done))
                    · refine zz_iconst (v := 1) C dX2_nights_128 (by decide) ?_
                      refine zz_goto (tgt := 133) C dX2_nights_129 (by decide) ?_
                      exact J133 _ (by first | exact zz_bt ‹_› | exact zz_bf ‹_› | rfl | (simp_all [zz_b, qa_cr, qa_dry, -Int32.not_le, -Int32.not_lt]; done))
                · intro J121
                  refine zz_iload C dX2_nights_101 rfl ?_
                  first | refine zz_ifb_eq (tgt := 110) C dX2_nights_103 (by decide) (fun c103 => ?_) (fun c103 => ?_) | refine zz_if_eq (tgt := 110) C dX2_nights_103 (by decide) (fun c103 => ?_) (fun c103 => ?_)
                  · first | refine zz_aload_n C dX2_nights_110 rfl ?_ | refine zz_aload_nN C dX2_nights_110 rfl ?_
                    refine zz_get C rfl (by first | assumption | exact zz_us | exact zz_lk1 (by assumption) (by assumption) | exact zz_lk3 (hd _ _ (by decide) (by decide) (by decide)) (by assumption) | exact zz_uf (by assumption) (by assumption) | (simp only [zz_up]; simp_all; done)) rfl in_X2 0 rfl q1230 (fun _ h => h) (by first | rfl | assumption) dX2_nights_111 ?_
                    refine zz_iload_n C dX2_nights_114 rfl ?_
                    refine zz_bipush (v := nI 6) C dX2_nights_115 (by decide) ?_
                    refine zz_callS C zy_X2_at (ct_X2_at i 6 rfl rfl) rfl q1310 rfl rfl rfl rfl rfl dX2_nights_117 ⟨Nat.le_of_ble_eq_true rfl, Nat.le_of_ble_eq_true rfl⟩ (fun v hz hp => ?_)
                    obtain ⟨rfl, ez⟩ := hp
                    obtain rfl := ez.symm
                    refine zz_iald C (by first | assumption | exact zz_us | exact zz_lk1 (by assumption) (by assumption) | exact zz_lk3 (hd _ _ (by decide) (by decide) (by decide)) (by assumption) | exact zz_uf (by assumption) (by assumption) | (simp only [zz_up]; simp_all; done)) rfl (by omega) (by omega) dX2_nights_120 ?_
                    exact J121 _ (by first | exact zz_ift ‹_› | exact zz_iff ‹_›)
                  · refine zz_iconst (v := 1) C dX2_nights_106 (by decide) ?_
                    refine zz_goto (tgt := 121) C dX2_nights_107 (by decide) ?_
                    exact J121 _ (by first | exact zz_ift ‹_› | exact zz_iff ‹_›)
              · intro J89
                first | refine zz_aload_n C dX2_nights_65 rfl ?_ | refine zz_aload_nN C dX2_nights_65 rfl ?_
                refine zz_get C rfl (by first | assumption | exact zz_us | exact zz_lk1 (by assumption) (by assumption) | exact zz_lk3 (hd _ _ (by decide) (by decide) (by decide)) (by assumption) | exact zz_uf (by assumption) (by assumption) | (simp only [zz_up]; simp_all; done)) rfl in_X2 0 rfl q1230 (fun _ h => h) (by first | rfl | assumption) dX2_nights_66 ?_
                refine zz_bipush (v := nI 7) C dX2_nights_69 (by decide) ?_
                refine zz_iald C (by first | assumption | exact zz_us | exact zz_lk1 (by assumption) (by assumption) | exact zz_lk3 (hd _ _ (by decide) (by decide) (by decide)) (by assumption) | exact zz_uf (by assumption) (by assumption) | (simp only [zz_up]; simp_all; done)) rfl (by omega) (by omega) dX2_nights_71 ?_
                refine zz_iconst (v := 1) C dX2_nights_72 (by decide) ?_
                refine zz_icmp_ne (tgt := 88) C dX2_nights_73 (by decide) (fun c73 => ?_) (fun c73 => ?_)
                · refine zz_iconst (v := 0) C dX2_nights_88 (by decide) ?_
                  exact J89 _ (by first | exact zz_bt ‹_› | exact zz_bf ‹_› | rfl | (simp_all [zz_b, qa_cr, qa_dry, -Int32.not_le, -Int32.not_lt]; done))
                · first | refine zz_aload_n C dX2_nights_76 rfl ?_ | refine zz_aload_nN C dX2_nights_76 rfl ?_
                  refine zz_iload_n C dX2_nights_77 rfl ?_
                  refine zz_callV C zy_X2_wouldCrack (ct_X2_wouldCrack (a := (qa_nt (upd a 7 (if v0 ≤ a 2 then 1 else 0)) i).2) i rfl (by omega) ⟨fs, zz_lk1 hx hs, hf0, zz_us⟩) rfl q1395 (by first | assumption | exact zz_us | exact zz_lk1 (by assumption) (by assumption) | exact zz_lk3 (hd _ _ (by decide) (by decide) (by decide)) (by assumption) | exact zz_uf (by assumption) (by assumption) | (simp only [zz_up]; simp_all; done)) rfl rfl rfl rfl rfl rfl dX2_nights_78 ⟨Nat.le_of_ble_eq_true rfl, Nat.le_of_ble_eq_true rfl⟩ (fun v hz hp => ?_)
                  obtain ⟨rfl, ez⟩ := hp
                  obtain rfl := ez.symm
                  first | refine zz_ifb_eq (tgt := 88) C dX2_nights_81 (by decide) (fun c81 => ?_) (fun c81 => ?_) | refine zz_if_eq (tgt := 88) C dX2_nights_81 (by decide) (fun c81 => ?_) (fun c81 => ?_)
                  · refine zz_iconst (v := 0) C dX2_nights_88 (by decide) ?_
                    exact J89 _ (by first | exact zz_bt ‹_› | exact zz_bf ‹_› | rfl | (simp_all [zz_b, qa_cr, qa_dry, -Int32.not_le, -Int32.not_lt]; done))
                  · refine zz_iconst (v := 1) C dX2_nights_84 (by decide) ?_
                    refine zz_goto (tgt := 89) C dX2_nights_85 (by decide) ?_
                    exact J89 _ (by first | exact zz_bt ‹_› | exact zz_bf ‹_› | rfl | (simp_all [zz_b, qa_cr, qa_dry, -Int32.not_le, -Int32.not_lt]; done))
        exact zz_loc2 (L55 (nb + 1) 0 (by omega) (by omega)) ⟨rfl, rfl, rfl, rfl, trivial⟩
      · intro J50
        refine zz_iload_n C dX2_nights_35 rfl ?_
        first | refine zz_aload_n C dX2_nights_36 rfl ?_ | refine zz_aload_nN C dX2_nights_36 rfl ?_
        refine zz_get C rfl (by first | assumption | exact zz_us | exact zz_lk1 (by assumption) (by assumption) | exact zz_lk3 (hd _ _ (by decide) (by decide) (by decide)) (by assumption) | exact zz_uf (by assumption) (by assumption) | (simp only [zz_up]; simp_all; done)) rfl in_X2 0 rfl q1230 (fun _ h => h) (by first | rfl | assumption) dX2_nights_37 ?_
        refine zz_iconst (v := nI 2) C dX2_nights_40 (by decide) ?_
        refine zz_iald C (by first | assumption | exact zz_us | exact zz_lk1 (by assumption) (by assumption) | exact zz_lk3 (hd _ _ (by decide) (by decide) (by decide)) (by assumption) | exact zz_uf (by assumption) (by assumption) | (simp only [zz_up]; simp_all; done)) rfl (by omega) (by omega) dX2_nights_41 ?_
        refine zz_icmp_gt (tgt := 49) C dX2_nights_42 (by decide) (fun c42 => ?_) (fun c42 => ?_)
        · refine zz_iconst (v := 0) C dX2_nights_49 (by decide) ?_
          exact J50 _ (by first | exact (if_pos ‹_›).symm | exact (if_neg ‹_›).symm | exact (if_neg (Int32.not_le.mpr ‹_›)).symm | exact (if_pos (Int32.not_lt.mp ‹_›)).symm)
        · refine zz_iconst (v := 1) C dX2_nights_45 (by decide) ?_
          refine zz_goto (tgt := 50) C dX2_nights_46 (by decide) ?_
          exact J50 _ (by first | exact (if_pos ‹_›).symm | exact (if_neg ‹_›).symm | exact (if_neg (Int32.not_le.mpr ‹_›)).symm | exact (if_pos (Int32.not_lt.mp ‹_›)).symm)
    · refine zz_bipush (v := (-5)) C dX2_nights_26 (by decide) ?_
      refine zz_iret C dX2_nights_28 rfl rfl ?_
      refine ⟨?_, ?_⟩
      · first | (simp_all [op_nights, -Int32.not_le, -Int32.not_lt]; done) | (simp_all [op_nights, -Int32.not_le, -Int32.not_lt]; rfl)
      · first | (simp_all [op_nights, -Int32.not_le, -Int32.not_lt, zz_upsame]; done) | (simp_all [op_nights, -Int32.not_le, -Int32.not_lt, zz_upsame]; rfl)
  · refine zz_bipush (v := (-2)) C dX2_nights_11 (by decide) ?_
    refine zz_iret C dX2_nights_13 rfl rfl ?_
    refine ⟨?_, ?_⟩
    · first | (simp_all [op_nights, -Int32.not_le, -Int32.not_lt]; done) | (simp_all [op_nights, -Int32.not_le, -Int32.not_lt]; rfl)
    · first | (simp_all [op_nights, -Int32.not_le, -Int32.not_lt, zz_upsame]; done) | (simp_all [op_nights, -Int32.not_le, -Int32.not_lt, zz_upsame]; rfl)

theorem ct_X2_loads {l : Launch} {D : va_G} {b0 : Nat} {h : zz_H} {x s0 : Nat} {a : Nat → Int32} {v0 v1 v2 : Int32} (nb : Nat) (h5 : a 5 = nI nb) (hnb : nb ≤ 24) (hM : tw_M D h x s0 a) : zz_Ct l D b0 yX2_loads cX2_loads 4 (some .int) 3 68 0 0 [.ref x, .int v0, .int v1, .int v2] h (fun v h' => v = some (.int (op_loads a v0 v1 v2).1) ∧ h' = zz_up h s0 (.inl (D.1 100, 324, .inl (op_loads a v0 v1 v2).2))) := by
  refine zz_Ct.of zy_X2_loads.1 rfl ?_
  intro p e s m below meth c C
  have hM0 := hM
  obtain ⟨fs, hx, hf0, hs⟩ := hM0
  have hn5 : (a 5).toNatClampNeg = nb := by rw [h5]; exact nI_clamp (by omega)
  first | refine zz_aload_n C dX2_loads_0 rfl ?_ | refine zz_aload_nN C dX2_loads_0 rfl ?_
  refine zz_iload_n C dX2_loads_1 rfl ?_
  refine zz_callV C zy_X2_isBlock (ct_X2_isBlock hM) rfl q1321 (by first | assumption | exact zz_us | exact zz_lk1 (by assumption) (by assumption) | exact zz_lk3 (hd _ _ (by decide) (by decide) (by decide)) (by assumption) | exact zz_uf (by assumption) (by assumption) | (simp only [zz_up]; simp_all; done)) rfl rfl rfl rfl rfl rfl dX2_loads_2 ⟨Nat.le_of_ble_eq_true rfl, Nat.le_of_ble_eq_true rfl⟩ (fun v hz hp => ?_)
  obtain ⟨rfl, ez⟩ := hp
  obtain rfl := ez.symm
  first | refine zz_ifb_eq (tgt := 24) C dX2_loads_5 (by decide) (fun c5 => ?_) (fun c5 => ?_) | refine zz_if_eq (tgt := 24) C dX2_loads_5 (by decide) (fun c5 => ?_) (fun c5 => ?_)
  · refine zz_iconst (v := (-1)) C dX2_loads_24 (by decide) ?_
    refine zz_iret C dX2_loads_25 rfl rfl ?_
    refine ⟨?_, ?_⟩
    · first | (simp_all [op_loads, qa_put, -Int32.not_le, -Int32.not_lt]; done) | (simp_all [op_loads, qa_put, -Int32.not_le, -Int32.not_lt]; rfl)
    · first | (simp_all [op_loads, qa_put, -Int32.not_le, -Int32.not_lt, zz_upsame]; done) | (simp_all [op_loads, qa_put, -Int32.not_le, -Int32.not_lt, zz_upsame]; rfl)
  · obtain ⟨b, hb, rfl⟩ := qa_ix (n := nb) (by omega) (by rw [← h5]; assumption)
    have ebn : (nI b).toNatClampNeg = b := nI_clamp (by omega)
    refine zz_iload_n C dX2_loads_8 rfl ?_
    refine zz_callS C zy_X2_isLorry (ct_X2_isLorry) rfl q1380 rfl rfl rfl rfl rfl dX2_loads_9 ⟨Nat.le_of_ble_eq_true rfl, Nat.le_of_ble_eq_true rfl⟩ (fun v hz hp => ?_)
    obtain ⟨rfl, ez⟩ := hp
    obtain rfl := ez.symm
    first | refine zz_ifb_eq (tgt := 24) C dX2_loads_12 (by decide) (fun c12 => ?_) (fun c12 => ?_) | refine zz_if_eq (tgt := 24) C dX2_loads_12 (by decide) (fun c12 => ?_) (fun c12 => ?_)
    · refine zz_iconst (v := (-1)) C dX2_loads_24 (by decide) ?_
      refine zz_iret C dX2_loads_25 rfl rfl ?_
      refine ⟨?_, ?_⟩
      · first | (simp_all [op_loads, qa_put, -Int32.not_le, -Int32.not_lt]; done) | (simp_all [op_loads, qa_put, -Int32.not_le, -Int32.not_lt]; rfl)
      · first | (simp_all [op_loads, qa_put, -Int32.not_le, -Int32.not_lt, zz_upsame]; done) | (simp_all [op_loads, qa_put, -Int32.not_le, -Int32.not_lt, zz_upsame]; rfl)
    · refine zz_iload_n C dX2_loads_15 rfl ?_
      refine zz_iconst (v := 0) C dX2_loads_16 (by decide) ?_
      refine zz_iconst (v := 4) C dX2_loads_17 (by decide) ?_
      refine zz_callS C zy_X2_in (ct_X2_in) rfl q1272 rfl rfl rfl rfl rfl dX2_loads_18 ⟨Nat.le_of_ble_eq_true rfl, Nat.le_of_ble_eq_true rfl⟩ (fun v hz hp => ?_)
      obtain ⟨rfl, ez⟩ := hp
      obtain rfl := ez.symm
      first | refine zz_ifb_ne (tgt := 26) C dX2_loads_21 (by decide) (fun c21 => ?_) (fun c21 => ?_) | refine zz_if_ne (tgt := 26) C dX2_loads_21 (by decide) (fun c21 => ?_) (fun c21 => ?_)
      · first | refine zz_aload_n C dX2_loads_26 rfl ?_ | refine zz_aload_nN C dX2_loads_26 rfl ?_
        refine zz_iload_n C dX2_loads_27 rfl ?_
        refine zz_callV C zy_X2_isHere (ct_X2_isHere b rfl (by omega) hM) rfl q1329 (by first | assumption | exact zz_us | exact zz_lk1 (by assumption) (by assumption) | exact zz_lk3 (hd _ _ (by decide) (by decide) (by decide)) (by assumption) | exact zz_uf (by assumption) (by assumption) | (simp only [zz_up]; simp_all; done)) rfl rfl rfl rfl rfl rfl dX2_loads_28 ⟨Nat.le_of_ble_eq_true rfl, Nat.le_of_ble_eq_true rfl⟩ (fun v hz hp => ?_)
        obtain ⟨rfl, ez⟩ := hp
        obtain rfl := ez.symm
        first | refine zz_ifb_eq (tgt := 45) C dX2_loads_31 (by decide) (fun c31 => ?_) (fun c31 => ?_) | refine zz_if_eq (tgt := 45) C dX2_loads_31 (by decide) (fun c31 => ?_) (fun c31 => ?_)
        · refine zz_bipush (v := (-5)) C dX2_loads_45 (by decide) ?_
          refine zz_iret C dX2_loads_47 rfl rfl ?_
          refine ⟨?_, ?_⟩
          · first | (simp_all [op_loads, qa_put, -Int32.not_le, -Int32.not_lt]; done) | (simp_all [op_loads, qa_put, -Int32.not_le, -Int32.not_lt]; rfl)
          · first | (simp_all [op_loads, qa_put, -Int32.not_le, -Int32.not_lt, zz_upsame]; done) | (simp_all [op_loads, qa_put, -Int32.not_le, -Int32.not_lt, zz_upsame]; rfl)
        · first | refine zz_aload_n C dX2_loads_34 rfl ?_ | refine zz_aload_nN C dX2_loads_34 rfl ?_
          refine zz_iload_n C dX2_loads_35 rfl ?_
          refine zz_iload_n C dX2_loads_36 rfl ?_
          refine zz_callV C zy_X2_blockAt (ct_X2_blockAt nb h5 hnb hM) rfl q1383 (by first | assumption | exact zz_us | exact zz_lk1 (by assumption) (by assumption) | exact zz_lk3 (hd _ _ (by decide) (by decide) (by decide)) (by assumption) | exact zz_uf (by assumption) (by assumption) | (simp only [zz_up]; simp_all; done)) rfl rfl rfl rfl rfl rfl dX2_loads_37 ⟨Nat.le_of_ble_eq_true rfl, Nat.le_of_ble_eq_true rfl⟩ (fun v hz hp => ?_)
          obtain ⟨rfl, ez⟩ := hp
          obtain rfl := ez.symm
          refine zz_bipush (v := (-6)) C dX2_loads_40 (by decide) ?_
          refine zz_icmp_eq (tgt := 48) C dX2_loads_42 (by decide) (fun c42 => ?_) (fun c42 => ?_)
          · first | refine zz_aload_n C dX2_loads_48 rfl ?_ | refine zz_aload_nN C dX2_loads_48 rfl ?_
            refine zz_get C rfl (by first | assumption | exact zz_us | exact zz_lk1 (by assumption) (by assumption) | exact zz_lk3 (hd _ _ (by decide) (by decide) (by decide)) (by assumption) | exact zz_uf (by assumption) (by assumption) | (simp only [zz_up]; simp_all; done)) rfl in_X2 0 rfl q1230 (fun _ h => h) (by first | rfl | assumption) dX2_loads_49 ?_
            refine zz_iload_n C dX2_loads_52 rfl ?_
            refine zz_iconst (v := nI 4) C dX2_loads_53 (by decide) ?_
            refine zz_callS C zy_X2_at (ct_X2_at b 4 rfl rfl) rfl q1310 rfl rfl rfl rfl rfl dX2_loads_54 ⟨Nat.le_of_ble_eq_true rfl, Nat.le_of_ble_eq_true rfl⟩ (fun v hz hp => ?_)
            obtain ⟨rfl, ez⟩ := hp
            obtain rfl := ez.symm
            refine zz_iconst (v := 2) C dX2_loads_57 (by decide) ?_
            first | refine zz_iast2 C rfl (by omega) (by omega) dX2_loads_58 ?_ | refine zz_iast C (by first | assumption | exact zz_us | exact zz_lk1 (by assumption) (by assumption) | exact zz_lk3 (hd _ _ (by decide) (by decide) (by decide)) (by assumption) | exact zz_uf (by assumption) (by assumption) | (simp only [zz_up]; simp_all; done)) rfl (by omega) (by omega) dX2_loads_58 ?_
            first | refine zz_aload_n C dX2_loads_59 rfl ?_ | refine zz_aload_nN C dX2_loads_59 rfl ?_
            refine zz_get C rfl (by first | assumption | exact zz_us | exact zz_lk1 (by assumption) (by assumption) | exact zz_lk3 (hd _ _ (by decide) (by decide) (by decide)) (by assumption) | exact zz_uf (by assumption) (by assumption) | (simp only [zz_up]; simp_all; done)) rfl in_X2 0 rfl q1230 (fun _ h => h) (by first | rfl | assumption) dX2_loads_60 ?_
            refine zz_iload_n C dX2_loads_63 rfl ?_
            refine zz_bipush (v := nI 8) C dX2_loads_64 (by decide) ?_
            refine zz_callS C zy_X2_at (ct_X2_at b 8 rfl rfl) rfl q1310 rfl rfl rfl rfl rfl dX2_loads_66 ⟨Nat.le_of_ble_eq_true rfl, Nat.le_of_ble_eq_true rfl⟩ (fun v hz hp => ?_)
            obtain ⟨rfl, ez⟩ := hp
            obtain rfl := ez.symm
            refine zz_iconst (v := 5) C dX2_loads_69 (by decide) ?_
            refine zz_iload_n C dX2_loads_70 rfl ?_
            refine zz_imul C dX2_loads_71 ?_
            refine zz_iload_n C dX2_loads_72 rfl ?_
            refine zz_iadd C dX2_loads_73 ?_
            first | refine zz_iast2 C rfl (by omega) (by omega) dX2_loads_74 ?_ | refine zz_iast C (by first | assumption | exact zz_us | exact zz_lk1 (by assumption) (by assumption) | exact zz_lk3 (hd _ _ (by decide) (by decide) (by decide)) (by assumption) | exact zz_uf (by assumption) (by assumption) | (simp only [zz_up]; simp_all; done)) rfl (by omega) (by omega) dX2_loads_74 ?_
            first | refine zz_aload_n C dX2_loads_75 rfl ?_ | refine zz_aload_nN C dX2_loads_75 rfl ?_
            refine zz_iload_n C dX2_loads_76 rfl ?_
            refine zz_callV C zy_X2_loadOf (ct_X2_loadOf (a := qa_put a (nI b) v1 v2) nb (by unfold qa_put; rw [up_n (by omega), up_n (by omega), h5]) hnb ⟨fs, zz_lk1 hx hs, hf0, by unfold qa_put; rw [ebn]; exact zz_us⟩) rfl q1387 (by first | assumption | exact zz_us | exact zz_lk1 (by assumption) (by assumption) | exact zz_lk3 (hd _ _ (by decide) (by decide) (by decide)) (by assumption) | exact zz_uf (by assumption) (by assumption) | (simp only [zz_up]; simp_all; done)) rfl rfl rfl rfl rfl rfl dX2_loads_77 ⟨Nat.le_of_ble_eq_true rfl, Nat.le_of_ble_eq_true rfl⟩ (fun v hz hp => ?_)
            obtain ⟨rfl, ez⟩ := hp
            obtain rfl := ez.symm
            refine zz_iret C dX2_loads_80 rfl rfl ?_
            refine ⟨?_, ?_⟩
            · first | (simp_all [op_loads, qa_put, -Int32.not_le, -Int32.not_lt]; done) | (simp_all [op_loads, qa_put, -Int32.not_le, -Int32.not_lt]; rfl)
            · first | (simp_all [op_loads, qa_put, -Int32.not_le, -Int32.not_lt, zz_upsame]; done) | (simp_all [op_loads, qa_put, -Int32.not_le, -Int32.not_lt, zz_upsame]; rfl)
          · refine zz_bipush (v := (-5)) C dX2_loads_45 (by decide) ?_
            refine zz_iret C dX2_loads_47 rfl rfl ?_
            refine ⟨?_, ?_⟩
            · first | (simp_all [op_loads, qa_put, -Int32.not_le, -Int32.not_lt]; done) | (simp_all [op_loads, qa_put, -Int32.not_le, -Int32.not_lt]; rfl)
            · first | (simp_all [op_loads, qa_put, -Int32.not_le, -Int32.not_lt, zz_upsame]; done) | (simp_all [op_loads, qa_put, -Int32.not_le, -Int32.not_lt, zz_upsame]; rfl)
      · refine zz_iconst (v := (-1)) C dX2_loads_24 (by decide) ?_
        refine zz_iret C dX2_loads_25 rfl rfl ?_
        refine ⟨?_, ?_⟩
        · first | (simp_all [op_loads, qa_put, -Int32.not_le, -Int32.not_lt]; done) | (simp_all [op_loads, qa_put, -Int32.not_le, -Int32.not_lt]; rfl)
        · first | (simp_all [op_loads, qa_put, -Int32.not_le, -Int32.not_lt, zz_upsame]; done) | (simp_all [op_loads, qa_put, -Int32.not_le, -Int32.not_lt, zz_upsame]; rfl)

theorem ct_X2_orders {l : Launch} {D : va_G} {b0 : Nat} {h : zz_H} {x : Nat} {ad : Nat → Nat} {a ah hi : Nat → Int32} {kp : Nat} {sl sv pd : Nat → Int32} {len : Nat} {so : Nat → Int32} {pos wr : Int32} {to : Nat → Int32} {v0 v1 v2 : Int32} (no : Nat) (h6o : a 6 = nI no) (hno : no ≤ 10) (hX : tw_X D h x ad a ah hi kp sl sv pd len so pos wr to) : zz_Ct l D b0 yX2_orders cX2_orders 6 (some .int) 2 42 0 0 [.ref x, .int v0, .int v1, .int v2] h (fun v h' => v = some (.int (op_orders a v0 v1 v2).1) ∧ tw_G D h ad h' (op_orders a v0 v1 v2).2) := by
  refine zz_Ct.of zy_X2_orders.1 rfl ?_
  intro p e s m below meth c C
  have hM := hX.M
  obtain ⟨hx, h0, h1a, h2a, h3a, h4a, h5a, h6, h7, hd⟩ := id hX
  have hd06 : ad 0 ≠ ad 6 := hd 0 6 (by decide) (by decide) (by decide)
  have hn6 : (a 6).toNatClampNeg = no := by rw [h6o]; exact nI_clamp (by omega)
  refine zz_iload_n C dX2_orders_0 rfl ?_
  refine zz_callS C zy_X2_isSize (ct_X2_isSize) rfl q1303 rfl rfl rfl rfl rfl dX2_orders_1 ⟨Nat.le_of_ble_eq_true rfl, Nat.le_of_ble_eq_true rfl⟩ (fun v hz hp => ?_)
  obtain ⟨rfl, ez⟩ := hp
  obtain rfl := ez.symm
  first | refine zz_ifb_eq (tgt := 21) C dX2_orders_4 (by decide) (fun c4 => ?_) (fun c4 => ?_) | refine zz_if_eq (tgt := 21) C dX2_orders_4 (by decide) (fun c4 => ?_) (fun c4 => ?_)
  · refine zz_bipush (v := (-2)) C dX2_orders_21 (by decide) ?_
    refine zz_iret C dX2_orders_23 rfl rfl ?_
    first
    | (refine ⟨by simp_all [op_orders, -Int32.not_le, -Int32.not_lt], ?_⟩
       rw [show (op_orders a v0 v1 v2).2 = a from by simp_all [op_orders, -Int32.not_le, -Int32.not_lt]]
       exact tw_G.same h0 h6)
    | (have eo : op_orders a v0 v1 v2 = (a 6, upd (upd (upd (qa_srts (upd a 6 (a 6 + 1)) no v0 v1 v2 3) (252 + 6 * no + 3) 0) (252 + 6 * no + 4) (-6)) (252 + 6 * no + 5) (-6)) := by
         unfold op_orders; rw [hn6, if_neg (by simp [*]), if_neg (by simp [*]), if_neg (by simp [*]), if_neg (by assumption)]
       rw [eo]
       exact ⟨rfl, g, by rw [e6]; exact zz_c3 hd06⟩)
  · refine zz_iload_n C dX2_orders_7 rfl ?_
    refine zz_callS C zy_X2_isSize (ct_X2_isSize) rfl q1303 rfl rfl rfl rfl rfl dX2_orders_8 ⟨Nat.le_of_ble_eq_true rfl, Nat.le_of_ble_eq_true rfl⟩ (fun v hz hp => ?_)
    obtain ⟨rfl, ez⟩ := hp
    obtain rfl := ez.symm
    first | refine zz_ifb_eq (tgt := 21) C dX2_orders_11 (by decide) (fun c11 => ?_) (fun c11 => ?_) | refine zz_if_eq (tgt := 21) C dX2_orders_11 (by decide) (fun c11 => ?_) (fun c11 => ?_)
    · refine zz_bipush (v := (-2)) C dX2_orders_21 (by decide) ?_
      refine zz_iret C dX2_orders_23 rfl rfl ?_
      first
      | (refine ⟨by simp_all [op_orders, -Int32.not_le, -Int32.not_lt], ?_⟩
         rw [show (op_orders a v0 v1 v2).2 = a from by simp_all [op_orders, -Int32.not_le, -Int32.not_lt]]
         exact tw_G.same h0 h6)
      | (have eo : op_orders a v0 v1 v2 = (a 6, upd (upd (upd (qa_srts (upd a 6 (a 6 + 1)) no v0 v1 v2 3) (252 + 6 * no + 3) 0) (252 + 6 * no + 4) (-6)) (252 + 6 * no + 5) (-6)) := by
           unfold op_orders; rw [hn6, if_neg (by simp [*]), if_neg (by simp [*]), if_neg (by simp [*]), if_neg (by assumption)]
         rw [eo]
         exact ⟨rfl, g, by rw [e6]; exact zz_c3 hd06⟩)
    · refine zz_iload_n C dX2_orders_14 rfl ?_
      refine zz_callS C zy_X2_isSize (ct_X2_isSize) rfl q1303 rfl rfl rfl rfl rfl dX2_orders_15 ⟨Nat.le_of_ble_eq_true rfl, Nat.le_of_ble_eq_true rfl⟩ (fun v hz hp => ?_)
      obtain ⟨rfl, ez⟩ := hp
      obtain rfl := ez.symm
      first | refine zz_ifb_ne (tgt := 24) C dX2_orders_18 (by decide) (fun c18 => ?_) (fun c18 => ?_) | refine zz_if_ne (tgt := 24) C dX2_orders_18 (by decide) (fun c18 => ?_) (fun c18 => ?_)
      · first | refine zz_aload_n C dX2_orders_24 rfl ?_ | refine zz_aload_nN C dX2_orders_24 rfl ?_
        refine zz_get C rfl (by first | assumption | exact zz_us | exact zz_lk1 (by assumption) (by assumption) | exact zz_lk3 (hd _ _ (by decide) (by decide) (by decide)) (by assumption) | exact zz_uf (by assumption) (by assumption) | (simp only [zz_up]; simp_all; done)) rfl in_X2 0 rfl q1230 (fun _ h => h) (by first | rfl | assumption) dX2_orders_25 ?_
        refine zz_bipush (v := nI 6) C dX2_orders_28 (by decide) ?_
        refine zz_iald C (by first | assumption | exact zz_us | exact zz_lk1 (by assumption) (by assumption) | exact zz_lk3 (hd _ _ (by decide) (by decide) (by decide)) (by assumption) | exact zz_uf (by assumption) (by assumption) | (simp only [zz_up]; simp_all; done)) rfl (by omega) (by omega) dX2_orders_30 ?_
        refine zz_bipush (v := 10) C dX2_orders_31 (by decide) ?_
        refine zz_icmp_ne (tgt := 39) C dX2_orders_33 (by decide) (fun c33 => ?_) (fun c33 => ?_)
        · have hno2 : no < 10 := by
            have h24 : no ≠ 10 := (fun q => c33 (by rw [h6o, q]; rfl))
            omega
          first | refine zz_aload_n C dX2_orders_39 rfl ?_ | refine zz_aload_nN C dX2_orders_39 rfl ?_
          refine zz_get C rfl (by first | assumption | exact zz_us | exact zz_lk1 (by assumption) (by assumption) | exact zz_lk3 (hd _ _ (by decide) (by decide) (by decide)) (by assumption) | exact zz_uf (by assumption) (by assumption) | (simp only [zz_up]; simp_all; done)) rfl in_X2 0 rfl q1230 (fun _ h => h) (by first | rfl | assumption) dX2_orders_40 ?_
          refine zz_bipush (v := nI 6) C dX2_orders_43 (by decide) ?_
          refine zz_iald C (by first | assumption | exact zz_us | exact zz_lk1 (by assumption) (by assumption) | exact zz_lk3 (hd _ _ (by decide) (by decide) (by decide)) (by assumption) | exact zz_uf (by assumption) (by assumption) | (simp only [zz_up]; simp_all; done)) rfl (by omega) (by omega) dX2_orders_45 ?_
          refine zz_istore C dX2_orders_46 (by decide) ?_
          first | refine zz_aload_n C dX2_orders_48 rfl ?_ | refine zz_aload_nN C dX2_orders_48 rfl ?_
          refine zz_get C rfl (by first | assumption | exact zz_us | exact zz_lk1 (by assumption) (by assumption) | exact zz_lk3 (hd _ _ (by decide) (by decide) (by decide)) (by assumption) | exact zz_uf (by assumption) (by assumption) | (simp only [zz_up]; simp_all; done)) rfl in_X2 0 rfl q1230 (fun _ h => h) (by first | rfl | assumption) dX2_orders_49 ?_
          refine zz_bipush (v := nI 6) C dX2_orders_52 (by decide) ?_
          refine zz_dup2 C dX2_orders_54 rfl rfl ?_
          refine zz_iald C (by first | assumption | exact zz_us | exact zz_lk1 (by assumption) (by assumption) | exact zz_lk3 (hd _ _ (by decide) (by decide) (by decide)) (by assumption) | exact zz_uf (by assumption) (by assumption) | (simp only [zz_up]; simp_all; done)) rfl (by omega) (by omega) dX2_orders_55 ?_
          refine zz_iconst (v := 1) C dX2_orders_56 (by decide) ?_
          refine zz_iadd C dX2_orders_57 ?_
          first | refine zz_iast2 C rfl (by omega) (by omega) dX2_orders_58 ?_ | refine zz_iast C (by first | assumption | exact zz_us | exact zz_lk1 (by assumption) (by assumption) | exact zz_lk3 (hd _ _ (by decide) (by decide) (by decide)) (by assumption) | exact zz_uf (by assumption) (by assumption) | (simp only [zz_up]; simp_all; done)) rfl (by omega) (by omega) dX2_orders_58 ?_
          first | refine zz_aload_n C dX2_orders_59 rfl ?_ | refine zz_aload_nN C dX2_orders_59 rfl ?_
          refine zz_iload_n C dX2_orders_60 rfl ?_
          refine zz_iload_n C dX2_orders_61 rfl ?_
          refine zz_iload_n C dX2_orders_62 rfl ?_
          refine zz_callV C zy_X2_sorts (ct_X2_sorts (hX.u0 (upd a 6 (a 6 + 1)))) rfl q1349 (by first | assumption | exact zz_us | exact zz_lk1 (by assumption) (by assumption) | exact zz_lk3 (hd _ _ (by decide) (by decide) (by decide)) (by assumption) | exact zz_uf (by assumption) (by assumption) | (simp only [zz_up]; simp_all; done)) rfl rfl rfl rfl rfl rfl dX2_orders_63 ⟨Nat.le_of_ble_eq_true rfl, Nat.le_of_ble_eq_true rfl⟩ (fun v hz hp => ?_)
          obtain ⟨g, ⟨rfl, hg⟩, e6⟩ := hp
          have hX1 := (hX.u0 (upd a 6 (a 6 + 1))).u6 g
          rw [← e6] at hX1
          obtain ⟨g0, g1a, g2a, g3a, g4a, g5a, g6a, g7a, g8a, hd⟩ := id hX1
          clear hx h0 h1a h2a h3a h4a h5a h6 h7
          refine zz_iconst (v := 0) C dX2_orders_66 (by decide) ?_
          refine zz_istore C dX2_orders_67 (by decide) ?_
          have L69 : ∀ (n : Nat) (i : Nat), i ≤ 3 → 4 ≤ i + n → zz_V D b0 6 p l e ({ frames := 2, cells := 0, slots := 0, locals := 42 } : Jvm.Room) s m ([.ref x, .int v0, .int v1, .int v2] : List Value).toArray below meth c (MQ below (zz_Q D b0 (fun v h' => v = some (.int (op_orders a v0 v1 v2).1) ∧ tw_G D h ad h' (op_orders a v0 v1 v2).2)) ([.ref x, .int v0, .int v1, .int v2] : List Value).toArray s 0 0 (fun q => b0 ≤ q)) 0 0 (zz_up hz (ad 0) (.inl (D.1 100, 324, .inl (qa_srts (upd a 6 (a 6 + 1)) no v0 v1 v2 i)))) [(0, .ref x), (4, .int (a 6)), (5, .int (nI i))] 69 [] := by
            intro n
            induction n with
            | zero =>
              intro i h1 h2
              exact absurd h2 (by omega)
            | succ n ih =>
              intro i h1 h2
              refine zz_iload C dX2_orders_69 rfl ?_
              refine zz_iconst (v := 3) C dX2_orders_71 (by decide) ?_
              refine zz_icmp_ge (tgt := 100) C dX2_orders_72 (by decide) (fun c72 => ?_) (fun c72 => ?_)
              · have hi2 : 3 ≤ i := (nI_leI (a := 3) (by omega) (by omega)).mp c72
                obtain rfl : i = 3 := by omega
                first | refine zz_aload_n C dX2_orders_100 rfl ?_ | refine zz_aload_nN C dX2_orders_100 rfl ?_
                refine zz_get C rfl (by first | assumption | exact zz_us | exact zz_lk1 (by assumption) (by assumption) | exact zz_lk3 (hd _ _ (by decide) (by decide) (by decide)) (by assumption) | exact zz_uf (by assumption) (by assumption) | (simp only [zz_up]; simp_all; done)) rfl in_X2 0 rfl q1230 (fun _ h => h) (by first | rfl | assumption) dX2_orders_101 ?_
                refine zz_iload C dX2_orders_104 rfl ?_
                refine zz_iconst (v := nI 3) C dX2_orders_106 (by decide) ?_
                refine zz_callS C zy_X2_ofOrderAt (ct_X2_ofOrderAt no 3 h6o rfl) rfl q1353 rfl rfl rfl rfl rfl dX2_orders_107 ⟨Nat.le_of_ble_eq_true rfl, Nat.le_of_ble_eq_true rfl⟩ (fun v hz hp => ?_)
                obtain ⟨rfl, ez⟩ := hp
                obtain rfl := ez.symm
                refine zz_iconst (v := 0) C dX2_orders_110 (by decide) ?_
                first | refine zz_iast2 C rfl (by omega) (by omega) dX2_orders_111 ?_ | refine zz_iast C (by first | assumption | exact zz_us | exact zz_lk1 (by assumption) (by assumption) | exact zz_lk3 (hd _ _ (by decide) (by decide) (by decide)) (by assumption) | exact zz_uf (by assumption) (by assumption) | (simp only [zz_up]; simp_all; done)) rfl (by omega) (by omega) dX2_orders_111 ?_
                first | refine zz_aload_n C dX2_orders_112 rfl ?_ | refine zz_aload_nN C dX2_orders_112 rfl ?_
                refine zz_get C rfl (by first | assumption | exact zz_us | exact zz_lk1 (by assumption) (by assumption) | exact zz_lk3 (hd _ _ (by decide) (by decide) (by decide)) (by assumption) | exact zz_uf (by assumption) (by assumption) | (simp only [zz_up]; simp_all; done)) rfl in_X2 0 rfl q1230 (fun _ h => h) (by first | rfl | assumption) dX2_orders_113 ?_
                refine zz_iload C dX2_orders_116 rfl ?_
                refine zz_iconst (v := nI 4) C dX2_orders_118 (by decide) ?_
                refine zz_callS C zy_X2_ofOrderAt (ct_X2_ofOrderAt no 4 h6o rfl) rfl q1353 rfl rfl rfl rfl rfl dX2_orders_119 ⟨Nat.le_of_ble_eq_true rfl, Nat.le_of_ble_eq_true rfl⟩ (fun v hz hp => ?_)
                obtain ⟨rfl, ez⟩ := hp
                obtain rfl := ez.symm
                refine zz_bipush (v := (-6)) C dX2_orders_122 (by decide) ?_
                first | refine zz_iast2 C rfl (by omega) (by omega) dX2_orders_124 ?_ | refine zz_iast C (by first | assumption | exact zz_us | exact zz_lk1 (by assumption) (by assumption) | exact zz_lk3 (hd _ _ (by decide) (by decide) (by decide)) (by assumption) | exact zz_uf (by assumption) (by assumption) | (simp only [zz_up]; simp_all; done)) rfl (by omega) (by omega) dX2_orders_124 ?_
                first | refine zz_aload_n C dX2_orders_125 rfl ?_ | refine zz_aload_nN C dX2_orders_125 rfl ?_
                refine zz_get C rfl (by first | assumption | exact zz_us | exact zz_lk1 (by assumption) (by assumption) | exact zz_lk3 (hd _ _ (by decide) (by decide) (by decide)) (by assumption) | exact zz_uf (by assumption) (by assumption) | (simp only [zz_up]; simp_all; done)) rfl in_X2 0 rfl q1230 (fun _ h => h) (by first | rfl | assumption) dX2_orders_126 ?_
                refine zz_iload C dX2_orders_129 rfl ?_
                refine zz_iconst (v := nI 5) C dX2_orders_131 (by decide) ?_
                refine zz_callS C zy_X2_ofOrderAt (ct_X2_ofOrderAt no 5 h6o rfl) rfl q1353 rfl rfl rfl rfl rfl dX2_orders_132 ⟨Nat.le_of_ble_eq_true rfl, Nat.le_of_ble_eq_true rfl⟩ (fun v hz hp => ?_)
                obtain ⟨rfl, ez⟩ := hp
                obtain rfl := ez.symm
                refine zz_bipush (v := (-6)) C dX2_orders_135 (by decide) ?_
                first | refine zz_iast2 C rfl (by omega) (by omega) dX2_orders_137 ?_ | refine zz_iast C (by first | assumption | exact zz_us | exact zz_lk1 (by assumption) (by assumption) | exact zz_lk3 (hd _ _ (by decide) (by decide) (by decide)) (by assumption) | exact zz_uf (by assumption) (by assumption) | (simp only [zz_up]; simp_all; done)) rfl (by omega) (by omega) dX2_orders_137 ?_
                refine zz_iload C dX2_orders_138 rfl ?_
                refine zz_iret C dX2_orders_140 rfl rfl ?_
                first
                | (refine ⟨by simp_all [op_orders, -Int32.not_le, -Int32.not_lt], ?_⟩
                   rw [show (op_orders a v0 v1 v2).2 = a from by simp_all [op_orders, -Int32.not_le, -Int32.not_lt]]
                   exact tw_G.same h0 h6)
                | (have eo : op_orders a v0 v1 v2 = (a 6, upd (upd (upd (qa_srts (upd a 6 (a 6 + 1)) no v0 v1 v2 3) (252 + 6 * no + 3) 0) (252 + 6 * no + 4) (-6)) (252 + 6 * no + 5) (-6)) := by
                     unfold op_orders; rw [hn6, if_neg (by simp [*]), if_neg (by simp [*]), if_neg (by simp [*]), if_neg (by assumption)]
                   rw [eo]
                   exact ⟨rfl, g, by rw [e6]; exact zz_c3 hd06⟩)
              · have hi2 : i < 3 := Nat.not_le.mp (fun q => c72 (nI_le (a := 3) q (by omega)))
                first | refine zz_aload_n C dX2_orders_75 rfl ?_ | refine zz_aload_nN C dX2_orders_75 rfl ?_
                refine zz_get C rfl (by first | assumption | exact zz_us | exact zz_lk1 (by assumption) (by assumption) | exact zz_lk3 (hd _ _ (by decide) (by decide) (by decide)) (by assumption) | exact zz_uf (by assumption) (by assumption) | (simp only [zz_up]; simp_all; done)) rfl in_X2 0 rfl q1230 (fun _ h => h) (by first | rfl | assumption) dX2_orders_76 ?_
                refine zz_iload C dX2_orders_79 rfl ?_
                refine zz_iload C dX2_orders_81 rfl ?_
                refine zz_callS C zy_X2_ofOrderAt (ct_X2_ofOrderAt no i h6o rfl) rfl q1353 rfl rfl rfl rfl rfl dX2_orders_83 ⟨Nat.le_of_ble_eq_true rfl, Nat.le_of_ble_eq_true rfl⟩ (fun v hz hp => ?_)
                obtain ⟨rfl, ez⟩ := hp
                obtain rfl := ez.symm
                first | refine zz_aload_n C dX2_orders_86 rfl ?_ | refine zz_aload_nN C dX2_orders_86 rfl ?_
                refine zz_get C rfl (by first | assumption | exact zz_us | exact zz_lk1 (by assumption) (by assumption) | exact zz_lk3 (hd _ _ (by decide) (by decide) (by decide)) (by assumption) | exact zz_uf (by assumption) (by assumption) | (simp only [zz_up]; simp_all; done)) rfl in_X2 8 rfl q1238 (fun _ h => h) (by first | rfl | assumption) dX2_orders_87 ?_
                refine zz_iload C dX2_orders_90 rfl ?_
                refine zz_iald C (by first | assumption | exact zz_us | exact zz_lk1 (by assumption) (by assumption) | exact zz_lk3 (hd _ _ (by decide) (by decide) (by decide)) (by assumption) | exact zz_uf (by assumption) (by assumption) | (simp only [zz_up]; simp_all; done)) rfl (by omega) (by omega) dX2_orders_92 ?_
                first | refine zz_iast2 C rfl (by omega) (by omega) dX2_orders_93 ?_ | refine zz_iast C (by first | assumption | exact zz_us | exact zz_lk1 (by assumption) (by assumption) | exact zz_lk3 (hd _ _ (by decide) (by decide) (by decide)) (by assumption) | exact zz_uf (by assumption) (by assumption) | (simp only [zz_up]; simp_all; done)) rfl (by omega) (by omega) dX2_orders_93 ?_
                refine zz_iinc C dX2_orders_94 rfl (by first | exact nI_1 _ | exact (rfl : _ + Int32.ofInt 1 = _ + 1)) (by decide) ?_
                refine zz_goto (tgt := 69) C dX2_orders_97 (by decide) ?_
                rw [hg i hi2]
                exact zz_loc2 (ih (i + 1) (by omega) (by omega)) ⟨rfl, rfl, rfl, trivial⟩
          have L0 := L69 4 0 (by omega) (by omega)
          rw [show qa_srts (upd a 6 (a 6 + 1)) no v0 v1 v2 0 = upd a 6 (a 6 + 1) from rfl, zz_upsame g1a] at L0
          exact zz_loc2 L0 ⟨rfl, rfl, rfl, trivial⟩
        · refine zz_bipush (v := (-4)) C dX2_orders_36 (by decide) ?_
          refine zz_iret C dX2_orders_38 rfl rfl ?_
          first
          | (refine ⟨by simp_all [op_orders, -Int32.not_le, -Int32.not_lt], ?_⟩
             rw [show (op_orders a v0 v1 v2).2 = a from by simp_all [op_orders, -Int32.not_le, -Int32.not_lt]]
             exact tw_G.same h0 h6)
          | (have eo : op_orders a v0 v1 v2 = (a 6, upd (upd (upd (qa_srts (upd a 6 (a 6 + 1)) no v0 v1 v2 3) (252 + 6 * no + 3) 0) (252 + 6 * no + 4) (-6)) (252 + 6 * no + 5) (-6)) := by
               unfold op_orders; rw [hn6, if_neg (by simp [*]), if_neg (by simp [*]), if_neg (by simp [*]), if_neg (by assumption)]
             rw [eo]
             exact ⟨rfl, g, by rw [e6]; exact zz_c3 hd06⟩)
      · refine zz_bipush (v := (-2)) C dX2_orders_21 (by decide) ?_
        refine zz_iret C dX2_orders_23 rfl rfl ?_
        first
        | (refine ⟨by simp_all [op_orders, -Int32.not_le, -Int32.not_lt], ?_⟩
           rw [show (op_orders a v0 v1 v2).2 = a from by simp_all [op_orders, -Int32.not_le, -Int32.not_lt]]
           exact tw_G.same h0 h6)
        | (have eo : op_orders a v0 v1 v2 = (a 6, upd (upd (upd (qa_srts (upd a 6 (a 6 + 1)) no v0 v1 v2 3) (252 + 6 * no + 3) 0) (252 + 6 * no + 4) (-6)) (252 + 6 * no + 5) (-6)) := by
             unfold op_orders; rw [hn6, if_neg (by simp [*]), if_neg (by simp [*]), if_neg (by simp [*]), if_neg (by assumption)]
           rw [eo]
           exact ⟨rfl, g, by rw [e6]; exact zz_c3 hd06⟩)

theorem ct_X2_gives {l : Launch} {D : va_G} {b0 : Nat} {h : zz_H} {x : Nat} {ad : Nat → Nat} {a ah hi : Nat → Int32} {kp : Nat} {sl sv pd : Nat → Int32} {len : Nat} {so : Nat → Int32} {pos wr : Int32} {to : Nat → Int32} {v0 v1 : Int32} (nb : Nat) (h5 : a 5 = nI nb) (hnb : nb ≤ 24) (no : Nat) (h6o : a 6 = nI no) (hno : no ≤ 10) (hX : tw_X D h x ad a ah hi kp sl sv pd len so pos wr to) : zz_Ct l D b0 yX2_gives cX2_gives 3 (some .int) 4 98 0 0 [.ref x, .int v0, .int v1] h (fun v h' => v = some (.int (op_gives a v0 v1).1) ∧ tw_G D h ad h' (op_gives a v0 v1).2) := by
  refine zz_Ct.of zy_X2_gives.1 rfl ?_
  intro p e s m below meth c C
  have hM := hX.M
  obtain ⟨hx, h0, h1a, h2a, h3a, h4a, h5a, h6, h7, hd⟩ := id hX
  have hd06 : ad 0 ≠ ad 6 := hd 0 6 (by decide) (by decide) (by decide)
  first | refine zz_aload_n C dX2_gives_0 rfl ?_ | refine zz_aload_nN C dX2_gives_0 rfl ?_
  refine zz_iload_n C dX2_gives_1 rfl ?_
  refine zz_callV C zy_X2_isOrder (ct_X2_isOrder hM) rfl q1360 (by first | assumption | exact zz_us | exact zz_lk1 (by assumption) (by assumption) | exact zz_lk3 (hd _ _ (by decide) (by decide) (by decide)) (by assumption) | exact zz_uf (by assumption) (by assumption) | (simp only [zz_up]; simp_all; done)) rfl rfl rfl rfl rfl rfl dX2_gives_2 ⟨Nat.le_of_ble_eq_true rfl, Nat.le_of_ble_eq_true rfl⟩ (fun v hz hp => ?_)
  obtain ⟨rfl, ez⟩ := hp
  obtain rfl := ez.symm
  first | refine zz_ifb_eq (tgt := 16) C dX2_gives_5 (by decide) (fun c5 => ?_) (fun c5 => ?_) | refine zz_if_eq (tgt := 16) C dX2_gives_5 (by decide) (fun c5 => ?_) (fun c5 => ?_)
  · refine zz_iconst (v := (-1)) C dX2_gives_16 (by decide) ?_
    refine zz_iret C dX2_gives_17 rfl rfl ?_
    first
    | (refine ⟨by simp_all [op_gives, -Int32.not_le, -Int32.not_lt], ?_⟩
       rw [show (op_gives a _ _).2 = a from by simp_all [op_gives, -Int32.not_le, -Int32.not_lt]]
       first | exact tw_G.same h0 h6 | exact tw_G.of6 (zz_h0 hX) hd06 e6)
    | (have eo : op_gives a (nI o) (nI b) = (qa_excOf (qa_give a (nI o) (nI b)) o b, qa_give a (nI o) (nI b)) := by
         unfold op_gives; rw [eon, ebn, if_neg (zz_tf (by assumption)), if_neg (zz_tf (by assumption)), if_neg (zz_tf (by assumption))]
       rw [eo]
       refine ⟨rfl, ((tw_G.of6 (zz_h0 hX) hd06 e6).up0 rfl).up6 hd06 e7⟩)
  · obtain ⟨o, ho, rfl⟩ := qa_ix (n := no) (by omega) (by rw [← h6o]; assumption)
    have eon : (nI o).toNatClampNeg = o := nI_clamp (by omega)
    first | refine zz_aload_n C dX2_gives_8 rfl ?_ | refine zz_aload_nN C dX2_gives_8 rfl ?_
    refine zz_iload_n C dX2_gives_9 rfl ?_
    refine zz_callV C zy_X2_isBlock (ct_X2_isBlock hM) rfl q1321 (by first | assumption | exact zz_us | exact zz_lk1 (by assumption) (by assumption) | exact zz_lk3 (hd _ _ (by decide) (by decide) (by decide)) (by assumption) | exact zz_uf (by assumption) (by assumption) | (simp only [zz_up]; simp_all; done)) rfl rfl rfl rfl rfl rfl dX2_gives_10 ⟨Nat.le_of_ble_eq_true rfl, Nat.le_of_ble_eq_true rfl⟩ (fun v hz hp => ?_)
    obtain ⟨rfl, ez⟩ := hp
    obtain rfl := ez.symm
    first | refine zz_ifb_ne (tgt := 18) C dX2_gives_13 (by decide) (fun c13 => ?_) (fun c13 => ?_) | refine zz_if_ne (tgt := 18) C dX2_gives_13 (by decide) (fun c13 => ?_) (fun c13 => ?_)
    · obtain ⟨b, hb, rfl⟩ := qa_ix (n := nb) (by omega) (by rw [← h5]; assumption)
      have ebn : (nI b).toNatClampNeg = b := nI_clamp (by omega)
      first | refine zz_aload_n C dX2_gives_18 rfl ?_ | refine zz_aload_nN C dX2_gives_18 rfl ?_
      refine zz_iload_n C dX2_gives_19 rfl ?_
      refine zz_iload_n C dX2_gives_20 rfl ?_
      refine zz_callV C zy_X2_canGive (ct_X2_canGive o b rfl (by omega) rfl (by omega) hX) rfl q1364 (by first | assumption | exact zz_us | exact zz_lk1 (by assumption) (by assumption) | exact zz_lk3 (hd _ _ (by decide) (by decide) (by decide)) (by assumption) | exact zz_uf (by assumption) (by assumption) | (simp only [zz_up]; simp_all; done)) rfl rfl rfl rfl rfl rfl dX2_gives_21 ⟨Nat.le_of_ble_eq_true rfl, Nat.le_of_ble_eq_true rfl⟩ (fun v hz hp => ?_)
      obtain ⟨g, rfl, e6⟩ := hp
      have hX1 := hX.u6 g
      rw [← e6] at hX1
      obtain ⟨g0, g1a, g2a, g3a, g4a, g5a, g6a, g7a, g8a, -⟩ := id hX1
      clear hx h0 h1a h2a h3a h4a h5a h6 h7
      first | refine zz_ifb_ne (tgt := 30) C dX2_gives_24 (by decide) (fun c24 => ?_) (fun c24 => ?_) | refine zz_if_ne (tgt := 30) C dX2_gives_24 (by decide) (fun c24 => ?_) (fun c24 => ?_)
      · first | refine zz_aload_n C dX2_gives_30 rfl ?_ | refine zz_aload_nN C dX2_gives_30 rfl ?_
        refine zz_get C rfl (by first | assumption | exact zz_us | exact zz_lk1 (by assumption) (by assumption) | exact zz_lk3 (hd _ _ (by decide) (by decide) (by decide)) (by assumption) | exact zz_uf (by assumption) (by assumption) | (simp only [zz_up]; simp_all; done)) rfl in_X2 0 rfl q1230 (fun _ h => h) (by first | rfl | assumption) dX2_gives_31 ?_
        refine zz_iload_n C dX2_gives_34 rfl ?_
        refine zz_iconst (v := nI 3) C dX2_gives_35 (by decide) ?_
        refine zz_callS C zy_X2_ofOrderAt (ct_X2_ofOrderAt o 3 rfl rfl) rfl q1353 rfl rfl rfl rfl rfl dX2_gives_36 ⟨Nat.le_of_ble_eq_true rfl, Nat.le_of_ble_eq_true rfl⟩ (fun v hz hp => ?_)
        obtain ⟨rfl, ez⟩ := hp
        obtain rfl := ez.symm
        refine zz_iconst (v := 1) C dX2_gives_39 (by decide) ?_
        first | refine zz_iast2 C rfl (by omega) (by omega) dX2_gives_40 ?_ | refine zz_iast C (by first | assumption | exact zz_us | exact zz_lk1 (by assumption) (by assumption) | exact zz_lk3 (hd _ _ (by decide) (by decide) (by decide)) (by assumption) | exact zz_uf (by assumption) (by assumption) | (simp only [zz_up]; simp_all; done)) rfl (by omega) (by omega) dX2_gives_40 ?_
        first | refine zz_aload_n C dX2_gives_41 rfl ?_ | refine zz_aload_nN C dX2_gives_41 rfl ?_
        refine zz_get C rfl (by first | assumption | exact zz_us | exact zz_lk1 (by assumption) (by assumption) | exact zz_lk3 (hd _ _ (by decide) (by decide) (by decide)) (by assumption) | exact zz_uf (by assumption) (by assumption) | (simp only [zz_up]; simp_all; done)) rfl in_X2 0 rfl q1230 (fun _ h => h) (by first | rfl | assumption) dX2_gives_42 ?_
        refine zz_iload_n C dX2_gives_45 rfl ?_
        refine zz_iconst (v := nI 4) C dX2_gives_46 (by decide) ?_
        refine zz_callS C zy_X2_ofOrderAt (ct_X2_ofOrderAt o 4 rfl rfl) rfl q1353 rfl rfl rfl rfl rfl dX2_gives_47 ⟨Nat.le_of_ble_eq_true rfl, Nat.le_of_ble_eq_true rfl⟩ (fun v hz hp => ?_)
        obtain ⟨rfl, ez⟩ := hp
        obtain rfl := ez.symm
        refine zz_iload_n C dX2_gives_50 rfl ?_
        first | refine zz_iast2 C rfl (by omega) (by omega) dX2_gives_51 ?_ | refine zz_iast C (by first | assumption | exact zz_us | exact zz_lk1 (by assumption) (by assumption) | exact zz_lk3 (hd _ _ (by decide) (by decide) (by decide)) (by assumption) | exact zz_uf (by assumption) (by assumption) | (simp only [zz_up]; simp_all; done)) rfl (by omega) (by omega) dX2_gives_51 ?_
        first | refine zz_aload_n C dX2_gives_52 rfl ?_ | refine zz_aload_nN C dX2_gives_52 rfl ?_
        refine zz_get C rfl (by first | assumption | exact zz_us | exact zz_lk1 (by assumption) (by assumption) | exact zz_lk3 (hd _ _ (by decide) (by decide) (by decide)) (by assumption) | exact zz_uf (by assumption) (by assumption) | (simp only [zz_up]; simp_all; done)) rfl in_X2 0 rfl q1230 (fun _ h => h) (by first | rfl | assumption) dX2_gives_53 ?_
        refine zz_iload_n C dX2_gives_56 rfl ?_
        refine zz_bipush (v := nI 7) C dX2_gives_57 (by decide) ?_
        refine zz_callS C zy_X2_at (ct_X2_at b 7 rfl rfl) rfl q1310 rfl rfl rfl rfl rfl dX2_gives_59 ⟨Nat.le_of_ble_eq_true rfl, Nat.le_of_ble_eq_true rfl⟩ (fun v hz hp => ?_)
        obtain ⟨rfl, ez⟩ := hp
        obtain rfl := ez.symm
        refine zz_iload_n C dX2_gives_62 rfl ?_
        first | refine zz_iast2 C rfl (by omega) (by omega) dX2_gives_63 ?_ | refine zz_iast C (by first | assumption | exact zz_us | exact zz_lk1 (by assumption) (by assumption) | exact zz_lk3 (hd _ _ (by decide) (by decide) (by decide)) (by assumption) | exact zz_uf (by assumption) (by assumption) | (simp only [zz_up]; simp_all; done)) rfl (by omega) (by omega) dX2_gives_63 ?_
        have hgq : upd (upd (upd a (252 + 6 * o + 3) 1) (252 + 6 * o + 4) (nI b)) (12 + 10 * b + 7) (nI o) = qa_give a (nI o) (nI b) := by unfold qa_give; rw [eon, ebn]
        rw [hgq]
        first | refine zz_aload_n C dX2_gives_64 rfl ?_ | refine zz_aload_nN C dX2_gives_64 rfl ?_
        refine zz_iload_n C dX2_gives_65 rfl ?_
        refine zz_iload_n C dX2_gives_66 rfl ?_
        refine zz_callV C zy_X2_excessOf (ct_X2_excessOf o b rfl (by omega) rfl (by omega) (hX1.u0 (qa_give a (nI o) (nI b)))) rfl q1368 (by first | assumption | exact zz_us | exact zz_lk1 (by assumption) (by assumption) | exact zz_lk3 (hd _ _ (by decide) (by decide) (by decide)) (by assumption) | exact zz_uf (by assumption) (by assumption) | (simp only [zz_up]; simp_all; done)) rfl rfl rfl rfl rfl rfl dX2_gives_67 ⟨Nat.le_of_ble_eq_true rfl, Nat.le_of_ble_eq_true rfl⟩ (fun v hz hp => ?_)
        obtain ⟨g2, rfl, e7⟩ := hp
        refine zz_iret C dX2_gives_70 rfl rfl ?_
        first
        | (refine ⟨by simp_all [op_gives, -Int32.not_le, -Int32.not_lt], ?_⟩
           rw [show (op_gives a _ _).2 = a from by simp_all [op_gives, -Int32.not_le, -Int32.not_lt]]
           first | exact tw_G.same h0 h6 | exact tw_G.of6 (zz_h0 hX) hd06 e6)
        | (have eo : op_gives a (nI o) (nI b) = (qa_excOf (qa_give a (nI o) (nI b)) o b, qa_give a (nI o) (nI b)) := by
             unfold op_gives; rw [eon, ebn, if_neg (zz_tf (by assumption)), if_neg (zz_tf (by assumption)), if_neg (zz_tf (by assumption))]
           rw [eo]
           refine ⟨rfl, ((tw_G.of6 (zz_h0 hX) hd06 e6).up0 rfl).up6 hd06 e7⟩)
      · refine zz_bipush (v := (-5)) C dX2_gives_27 (by decide) ?_
        refine zz_iret C dX2_gives_29 rfl rfl ?_
        first
        | (refine ⟨by simp_all [op_gives, -Int32.not_le, -Int32.not_lt], ?_⟩
           rw [show (op_gives a _ _).2 = a from by simp_all [op_gives, -Int32.not_le, -Int32.not_lt]]
           first | exact tw_G.same h0 h6 | exact tw_G.of6 (zz_h0 hX) hd06 e6)
        | (have eo : op_gives a (nI o) (nI b) = (qa_excOf (qa_give a (nI o) (nI b)) o b, qa_give a (nI o) (nI b)) := by
             unfold op_gives; rw [eon, ebn, if_neg (zz_tf (by assumption)), if_neg (zz_tf (by assumption)), if_neg (zz_tf (by assumption))]
           rw [eo]
           refine ⟨rfl, ((tw_G.of6 (zz_h0 hX) hd06 e6).up0 rfl).up6 hd06 e7⟩)
    · refine zz_iconst (v := (-1)) C dX2_gives_16 (by decide) ?_
      refine zz_iret C dX2_gives_17 rfl rfl ?_
      first
      | (refine ⟨by simp_all [op_gives, -Int32.not_le, -Int32.not_lt], ?_⟩
         rw [show (op_gives a _ _).2 = a from by simp_all [op_gives, -Int32.not_le, -Int32.not_lt]]
         first | exact tw_G.same h0 h6 | exact tw_G.of6 (zz_h0 hX) hd06 e6)
      | (have eo : op_gives a (nI o) (nI b) = (qa_excOf (qa_give a (nI o) (nI b)) o b, qa_give a (nI o) (nI b)) := by
           unfold op_gives; rw [eon, ebn, if_neg (zz_tf (by assumption)), if_neg (zz_tf (by assumption)), if_neg (zz_tf (by assumption))]
         rw [eo]
         refine ⟨rfl, ((tw_G.of6 (zz_h0 hX) hd06 e6).up0 rfl).up6 hd06 e7⟩)

