/-! the quarry: axles, why a lorry may not leave -/
section ZZ
variable {D : va_G} {b0 : Nat} {p : Program} {l : Launch} {e : Env} {R : Room} {s : State} {m : MethodId} {args : Array Value} {below : List Frame} {meth : Method} {c : Code} {Q : State → Prop} {cs ss : Nat} {h : zz_H} {lo : List (Nat × Value)} {y : MethodName} {cc : ByteArray} {nL : Nat} {ret : Option FieldType} {pc : Nat} {st : List Value}
theorem zz_astoreN (C : zz_C D b0 y cc nL ret p s m args meth c) {i : Nat} (hdg : decode cc pc = .ok (.astore i, 2)) (hn : i < nL) (kk : zz_V D b0 nL p l e R s m args below meth c Q cs ss h (zz_set lo i .null) (pc + 2) st) : zz_V D b0 nL p l e R s m args below meth c Q cs ss h lo pc (.null :: st) := fun H locs la hP hS hl => lv_astoreN C.1 C.2.1 hdg hl hn rfl (fun la1 hl1 => kk H locs la1 hP hS (zz_has hl1 (fun _ hx => zz_set_mem hx)))
end ZZ
theorem ct_X1_axle0 {l : Launch} {D : va_G} {b0 : Nat} {h : zz_H} {q : Nat} {ow : Nat → Nat × Nat} {ad sz : Nat → Nat} {a : Nat → Int32} {nb no : Nat} (hwf : wfn a nb no) (hQ : qu_I D h ow q ad sz a nb no) {l1 : Nat} {v1 : Int32} (hv1 : v1 = nI l1) (hl1 : l1 < 3) {c2 : Bool}  : zz_Ct l D b0 yX1_axle cX1_axle 8 (some .float) 4 85 5 20 [.ref q, .int v1, .int (zz_b c2), .null, .int (-6)] h (fun v h' => v = some (.float (qa_ax a nb v1 c2 (-6) (-6) 5)) ∧ h' = h) := by
  refine zz_Ct.of zy_X1_axle.1 rfl ?_
  intro p e s m below meth c C
  have hnb := hwf.1
  have hq := hQ.gq
  have hm : ((-6) : Int32) = -6 ∨ ∃ b : Nat, b < nb ∧ ((-6) : Int32) = nI b := Or.inl rfl
  refine zz_fconst0 C dX1_axle_0 ?_
  refine zz_fstore C dX1_axle_1 (by decide) ?_
  refine zz_iconst (v := 0) C dX1_axle_3 (by decide) ?_
  refine zz_istore C dX1_axle_4 (by decide) ?_
  have L6 : ∀ (n : Nat) (i : Nat), i ≤ 5 → 6 ≤ i + n → zz_V D b0 8 p l e ({ frames := 4, cells := 5, slots := 20, locals := 85 } : Jvm.Room) s m ([.ref q, .int v1, .int (zz_b c2), .null, .int (-6)] : List Value).toArray below meth c (MQ below (zz_Q D b0 (fun v h' => v = some (.float (qa_ax a nb v1 c2 (-6) (-6) 5)) ∧ h' = h)) ([.ref q, .int v1, .int (zz_b c2), .null, .int (-6)] : List Value).toArray s 5 20 (fun q => b0 ≤ q)) i (4 * i) h [(0, .ref q), (1, .int v1), (2, .int (zz_b c2)), (3, .null), (4, .int (-6)), (5, .float (qa_ax a nb v1 c2 (-6) (-6) i)), (6, .int (nI i))] 6 [] := by
    intro n
    induction n with
    | zero =>
      intro i h1 h2
      exact absurd h2 (by omega)
    | succ n ih =>
      intro i h1 h2
      refine zz_iload C dX1_axle_6 rfl ?_
      refine zz_iconst (v := 5) C dX1_axle_8 (by decide) ?_
      refine zz_icmp_ge (tgt := 72) C dX1_axle_9 (by decide) (fun c9 => ?_) (fun c9 => ?_)
      · have hi2 : 5 ≤ i := (nI_leI (a := 5) (by omega) (by omega)).mp c9
        obtain rfl : i = 5 := by omega
        refine zz_fload C dX1_axle_72 rfl ?_
        refine zz_fret C dX1_axle_74 (by first | rfl | exact Nat.ble_eq.mpr (by omega)) (by first | rfl | exact Nat.ble_eq.mpr (by omega)) ?_
        exact ⟨rfl, rfl⟩
      · have hi2 : i < 5 := Nat.not_le.mp (fun q => c9 (nI_le (a := 5) q (by omega)))
        refine zz_iload C dX1_axle_12 rfl ?_
        refine zz_iload C dX1_axle_14 rfl ?_
        refine zz_icmp_ne (tgt := 23) C dX1_axle_16 (by decide) (fun c16 => ?_) (fun c16 => ?_)
        · first | refine zz_aload_n C dX1_axle_23 rfl ?_ | refine zz_aload_nN C dX1_axle_23 rfl ?_
          refine zz_iload_n C dX1_axle_24 rfl ?_
          refine zz_iload C dX1_axle_25 rfl ?_
          refine zz_callV C zy_X1_on (ct_X1_on hwf hQ hv1 hl1 rfl hi2) rfl q786 hq rfl rfl rfl rfl rfl rfl dX1_axle_27 ⟨by show (_ : Nat) ≤ 5; omega, by show (_ : Nat) ≤ 20; omega⟩ (fun v hz hp => ?_)
          obtain ⟨rfl, ez⟩ := hp
          obtain rfl := ez.symm
          by_cases hf : qa_find a (5 * v1 + nI i) nb = -6
          · rw [qu_pv_n hf]
            have ebl : qa_bl a nb v1 (-6) (-6) i = -6 := (if_neg (fun g => absurd g.2 (by decide))).trans hf
            refine zz_astoreN C dX1_axle_30 (by decide) ?_
            first | refine zz_aload C dX1_axle_32 rfl ?_ | refine zz_aloadN C dX1_axle_32 rfl ?_
            refine zz_ifnullN (tgt := 66) C dX1_axle_34 (by decide) ?_
            refine zz_iinc C dX1_axle_66 rfl (by first | exact nI_1 _ | exact (rfl : _ + Int32.ofInt 1 = _ + 1)) (by decide) ?_
            refine zz_goto (tgt := 6) C dX1_axle_69 (by decide) ?_
            first
            | (rw [show qa_ax a nb v1 c2 (-6) (-6) i = qa_ax a nb v1 c2 (-6) (-6) (i + 1) from (if_pos ebl).symm]
               refine zz_widen (cs' := i + 1) (ss' := 4 * (i + 1)) (by omega) (by omega) ?_
               exact zz_loc2 (ih (i + 1) (by omega) (by omega)) ⟨rfl, rfl, rfl, rfl, rfl, rfl, rfl, trivial⟩)
            | (have eA : FP.fadd (qa_ax a nb v1 c2 (-6) (-6) i) (FP.fdiv (FP.fmul (FP.i2f (qa_w a bb)) (FP.i2f (fx_f c2 i))) 1082130432) = qa_ax a nb v1 c2 (-6) (-6) (i + 1) := by
                 rw [show qa_ax a nb v1 c2 (-6) (-6) (i + 1) = FP.fadd (qa_ax a nb v1 c2 (-6) (-6) i) (fx_w (qa_w a (qa_bl a nb v1 (-6) (-6) i).toNatClampNeg) c2 i) from if_neg (by rw [ebl]; exact qa_n6 (by omega)), ebl, nI_clamp (by omega)]
                 rfl
               rw [eA]
               refine zz_widen (cs' := i + 1) (ss' := 4 * (i + 1)) (by omega) (by omega) ?_
               exact zz_loc2 (ih (i + 1) (by omega) (by omega)) ⟨rfl, rfl, rfl, rfl, rfl, rfl, rfl, trivial⟩)
          · obtain ⟨bb, hbb, eb, -⟩ := qa_find_i hf
            rw [qu_pv_s (b := bb) eb (by omega)]
            have ebl : qa_bl a nb v1 (-6) (-6) i = nI bb := (if_neg (fun g => absurd g.2 (by decide))).trans eb
            have hA := qa_ax_k (a := a) (l := v1) (more := (-6)) (free := (-6)) (rear := c2) hnb hwf.wk hm i (by omega)
            refine zz_astore C dX1_axle_30 (by decide) ?_
            first | refine zz_aload C dX1_axle_32 rfl ?_ | refine zz_aloadN C dX1_axle_32 rfl ?_
            refine zz_ifnull C dX1_axle_34 ?_
            refine zz_fload C dX1_axle_37 rfl ?_
            first | refine zz_aload C dX1_axle_39 rfl ?_ | refine zz_aloadN C dX1_axle_39 rfl ?_
            refine zz_callV C zy_X3_weight (ct_X3_weight (hQ.gb hbb) (hQ.gz hbb)) rfl q571 (hQ.gb hbb) rfl rfl rfl rfl rfl rfl dX1_axle_41 ⟨by show (_ : Nat) ≤ 5; omega, by show (_ : Nat) ≤ 20; omega⟩ (fun v hz hp => ?_)
            obtain ⟨rfl, ez⟩ := hp
            obtain rfl := ez.symm
            rw [show a (12 + 10 * bb) * a (12 + 10 * bb + 1) * a (12 + 10 * bb + 2) * a (12 + 10 * bb + 3) / 10000 = qa_w a bb from rfl]
            refine zz_i2f C dX1_axle_44 ?_
            refine zz_joinI (pcJ := 58) (fx_f c2 i) ?_ ?_
            · rintro z58 rfl
              refine zz_i2f C dX1_axle_58 ?_
              refine zz_fmul C dX1_axle_59 (fx_m_k c2 (hwf.wk bb hbb) (by omega)).nn ?_
              refine zz_ldcF C rfl q787 dX1_axle_60 ?_
              refine zz_fdiv C dX1_axle_62 (fx_w_k c2 (hwf.wk bb hbb) (by omega)).nn ?_
              refine zz_fadd C dX1_axle_63 (fs_k.add hA (fx_w_k c2 (hwf.wk bb hbb) (by omega)) (by decide) (by omega) (by omega)).nn ?_
              refine zz_fstore C dX1_axle_64 (by decide) ?_
              refine zz_iinc C dX1_axle_66 rfl (by first | exact nI_1 _ | exact (rfl : _ + Int32.ofInt 1 = _ + 1)) (by decide) ?_
              refine zz_goto (tgt := 6) C dX1_axle_69 (by decide) ?_
              first
              | (rw [show qa_ax a nb v1 c2 (-6) (-6) i = qa_ax a nb v1 c2 (-6) (-6) (i + 1) from (if_pos ebl).symm]
                 refine zz_widen (cs' := i + 1) (ss' := 4 * (i + 1)) (by omega) (by omega) ?_
                 exact zz_loc2 (ih (i + 1) (by omega) (by omega)) ⟨rfl, rfl, rfl, rfl, rfl, rfl, rfl, trivial⟩)
              | (have eA : FP.fadd (qa_ax a nb v1 c2 (-6) (-6) i) (FP.fdiv (FP.fmul (FP.i2f (qa_w a bb)) (FP.i2f (fx_f c2 i))) 1082130432) = qa_ax a nb v1 c2 (-6) (-6) (i + 1) := by
                   rw [show qa_ax a nb v1 c2 (-6) (-6) (i + 1) = FP.fadd (qa_ax a nb v1 c2 (-6) (-6) i) (fx_w (qa_w a (qa_bl a nb v1 (-6) (-6) i).toNatClampNeg) c2 i) from if_neg (by rw [ebl]; exact qa_n6 (by omega)), ebl, nI_clamp (by omega)]
                   rfl
                 rw [eA]
                 refine zz_widen (cs' := i + 1) (ss' := 4 * (i + 1)) (by omega) (by omega) ?_
                 exact zz_loc2 (ih (i + 1) (by omega) (by omega)) ⟨rfl, rfl, rfl, rfl, rfl, rfl, rfl, trivial⟩)
            · intro J58
              refine zz_iload_n C dX1_axle_45 rfl ?_
              first | refine zz_ifb_eq (tgt := 54) C dX1_axle_46 (by decide) (fun c46 => ?_) (fun c46 => ?_) | refine zz_if_eq (tgt := 54) C dX1_axle_46 (by decide) (fun c46 => ?_) (fun c46 => ?_)
              · refine zz_iconst (v := 4) C dX1_axle_54 (by decide) ?_
                refine zz_iload C dX1_axle_55 rfl ?_
                refine zz_isub C dX1_axle_57 ?_
                exact J58 _ (by unfold fx_f; first | exact (if_pos ‹_›).symm | exact (if_neg (by rw [‹c2 = false›]; decide)).symm)
              · refine zz_iload C dX1_axle_49 rfl ?_
                refine zz_goto (tgt := 58) C dX1_axle_51 (by decide) ?_
                exact J58 _ (by unfold fx_f; first | exact (if_pos ‹_›).symm | exact (if_neg (by rw [‹c2 = false›]; decide)).symm)
        · exact absurd c16 (qa_n6 (by omega))
  exact zz_loc2 (L6 6 0 (by omega) (by omega)) ⟨rfl, rfl, rfl, rfl, rfl, rfl, rfl, trivial⟩

theorem ct_X1_axle1 {l : Launch} {D : va_G} {b0 : Nat} {h : zz_H} {q : Nat} {ow : Nat → Nat × Nat} {ad sz : Nat → Nat} {a : Nat → Int32} {nb no : Nat} (hwf : wfn a nb no) (hQ : qu_I D h ow q ad sz a nb no) {l1 : Nat} {v1 : Int32} (hv1 : v1 = nI l1) (hl1 : l1 < 3) {c2 : Bool} {b1 : Nat} (hb1 : b1 < nb) {v4 : Int32}  : zz_Ct l D b0 yX1_axle cX1_axle 8 (some .float) 4 85 5 20 [.ref q, .int v1, .int (zz_b c2), .ref (ad (10 + b1)), .int v4] h (fun v h' => v = some (.float (qa_ax a nb v1 c2 (nI b1) v4 5)) ∧ h' = h) := by
  refine zz_Ct.of zy_X1_axle.1 rfl ?_
  intro p e s m below meth c C
  have hnb := hwf.1
  have hq := hQ.gq
  have hm : ((nI b1) : Int32) = -6 ∨ ∃ b : Nat, b < nb ∧ ((nI b1) : Int32) = nI b := Or.inr ⟨b1, hb1, rfl⟩
  refine zz_fconst0 C dX1_axle_0 ?_
  refine zz_fstore C dX1_axle_1 (by decide) ?_
  refine zz_iconst (v := 0) C dX1_axle_3 (by decide) ?_
  refine zz_istore C dX1_axle_4 (by decide) ?_
  have L6 : ∀ (n : Nat) (i : Nat), i ≤ 5 → 6 ≤ i + n → zz_V D b0 8 p l e ({ frames := 4, cells := 5, slots := 20, locals := 85 } : Jvm.Room) s m ([.ref q, .int v1, .int (zz_b c2), .ref (ad (10 + b1)), .int v4] : List Value).toArray below meth c (MQ below (zz_Q D b0 (fun v h' => v = some (.float (qa_ax a nb v1 c2 (nI b1) v4 5)) ∧ h' = h)) ([.ref q, .int v1, .int (zz_b c2), .ref (ad (10 + b1)), .int v4] : List Value).toArray s 5 20 (fun q => b0 ≤ q)) i (4 * i) h [(0, .ref q), (1, .int v1), (2, .int (zz_b c2)), (3, .ref (ad (10 + b1))), (4, .int v4), (5, .float (qa_ax a nb v1 c2 (nI b1) v4 i)), (6, .int (nI i))] 6 [] := by
    intro n
    induction n with
    | zero =>
      intro i h1 h2
      exact absurd h2 (by omega)
    | succ n ih =>
      intro i h1 h2
      refine zz_iload C dX1_axle_6 rfl ?_
      refine zz_iconst (v := 5) C dX1_axle_8 (by decide) ?_
      refine zz_icmp_ge (tgt := 72) C dX1_axle_9 (by decide) (fun c9 => ?_) (fun c9 => ?_)
      · have hi2 : 5 ≤ i := (nI_leI (a := 5) (by omega) (by omega)).mp c9
        obtain rfl : i = 5 := by omega
        refine zz_fload C dX1_axle_72 rfl ?_
        refine zz_fret C dX1_axle_74 (by first | rfl | exact Nat.ble_eq.mpr (by omega)) (by first | rfl | exact Nat.ble_eq.mpr (by omega)) ?_
        exact ⟨rfl, rfl⟩
      · have hi2 : i < 5 := Nat.not_le.mp (fun q => c9 (nI_le (a := 5) q (by omega)))
        refine zz_iload C dX1_axle_12 rfl ?_
        refine zz_iload C dX1_axle_14 rfl ?_
        refine zz_icmp_ne (tgt := 23) C dX1_axle_16 (by decide) (fun c16 => ?_) (fun c16 => ?_)
        · first | refine zz_aload_n C dX1_axle_23 rfl ?_ | refine zz_aload_nN C dX1_axle_23 rfl ?_
          refine zz_iload_n C dX1_axle_24 rfl ?_
          refine zz_iload C dX1_axle_25 rfl ?_
          refine zz_callV C zy_X1_on (ct_X1_on hwf hQ hv1 hl1 rfl hi2) rfl q786 hq rfl rfl rfl rfl rfl rfl dX1_axle_27 ⟨by show (_ : Nat) ≤ 5; omega, by show (_ : Nat) ≤ 20; omega⟩ (fun v hz hp => ?_)
          obtain ⟨rfl, ez⟩ := hp
          obtain rfl := ez.symm
          by_cases hf : qa_find a (5 * v1 + nI i) nb = -6
          · rw [qu_pv_n hf]
            have ebl : qa_bl a nb v1 (nI b1) v4 i = -6 := (if_neg (fun g => absurd g.1 c16)).trans hf
            refine zz_astoreN C dX1_axle_30 (by decide) ?_
            first | refine zz_aload C dX1_axle_32 rfl ?_ | refine zz_aloadN C dX1_axle_32 rfl ?_
            refine zz_ifnullN (tgt := 66) C dX1_axle_34 (by decide) ?_
            refine zz_iinc C dX1_axle_66 rfl (by first | exact nI_1 _ | exact (rfl : _ + Int32.ofInt 1 = _ + 1)) (by decide) ?_
            refine zz_goto (tgt := 6) C dX1_axle_69 (by decide) ?_
            first
            | (rw [show qa_ax a nb v1 c2 (nI b1) v4 i = qa_ax a nb v1 c2 (nI b1) v4 (i + 1) from (if_pos ebl).symm]
               refine zz_widen (cs' := i + 1) (ss' := 4 * (i + 1)) (by omega) (by omega) ?_
               exact zz_loc2 (ih (i + 1) (by omega) (by omega)) ⟨rfl, rfl, rfl, rfl, rfl, rfl, rfl, trivial⟩)
            | (have eA : FP.fadd (qa_ax a nb v1 c2 (nI b1) v4 i) (FP.fdiv (FP.fmul (FP.i2f (qa_w a bb)) (FP.i2f (fx_f c2 i))) 1082130432) = qa_ax a nb v1 c2 (nI b1) v4 (i + 1) := by
                 rw [show qa_ax a nb v1 c2 (nI b1) v4 (i + 1) = FP.fadd (qa_ax a nb v1 c2 (nI b1) v4 i) (fx_w (qa_w a (qa_bl a nb v1 (nI b1) v4 i).toNatClampNeg) c2 i) from if_neg (by rw [ebl]; exact qa_n6 (by omega)), ebl, nI_clamp (by omega)]
                 rfl
               rw [eA]
               refine zz_widen (cs' := i + 1) (ss' := 4 * (i + 1)) (by omega) (by omega) ?_
               exact zz_loc2 (ih (i + 1) (by omega) (by omega)) ⟨rfl, rfl, rfl, rfl, rfl, rfl, rfl, trivial⟩)
            | (have eA : FP.fadd (qa_ax a nb v1 c2 (nI b1) v4 i) (FP.fdiv (FP.fmul (FP.i2f (qa_w a b1)) (FP.i2f (fx_f c2 i))) 1082130432) = qa_ax a nb v1 c2 (nI b1) v4 (i + 1) := by
                 rw [show qa_ax a nb v1 c2 (nI b1) v4 (i + 1) = FP.fadd (qa_ax a nb v1 c2 (nI b1) v4 i) (fx_w (qa_w a (qa_bl a nb v1 (nI b1) v4 i).toNatClampNeg) c2 i) from if_neg (by rw [ebl]; exact qa_n6 (by omega)), ebl, nI_clamp (by omega)]
                 rfl
               rw [eA]
               refine zz_widen (cs' := i + 1) (ss' := 4 * (i + 1)) (by omega) (by omega) ?_
               exact zz_loc2 (ih (i + 1) (by omega) (by omega)) ⟨rfl, rfl, rfl, rfl, rfl, rfl, rfl, trivial⟩)
          · obtain ⟨bb, hbb, eb, -⟩ := qa_find_i hf
            rw [qu_pv_s (b := bb) eb (by omega)]
            have ebl : qa_bl a nb v1 (nI b1) v4 i = nI bb := (if_neg (fun g => absurd g.1 c16)).trans eb
            have hA := qa_ax_k (a := a) (l := v1) (more := (nI b1)) (free := v4) (rear := c2) hnb hwf.wk hm i (by omega)
            refine zz_astore C dX1_axle_30 (by decide) ?_
            first | refine zz_aload C dX1_axle_32 rfl ?_ | refine zz_aloadN C dX1_axle_32 rfl ?_
            refine zz_ifnull C dX1_axle_34 ?_
            refine zz_fload C dX1_axle_37 rfl ?_
            first | refine zz_aload C dX1_axle_39 rfl ?_ | refine zz_aloadN C dX1_axle_39 rfl ?_
            refine zz_callV C zy_X3_weight (ct_X3_weight (hQ.gb hbb) (hQ.gz hbb)) rfl q571 (hQ.gb hbb) rfl rfl rfl rfl rfl rfl dX1_axle_41 ⟨by show (_ : Nat) ≤ 5; omega, by show (_ : Nat) ≤ 20; omega⟩ (fun v hz hp => ?_)
            obtain ⟨rfl, ez⟩ := hp
            obtain rfl := ez.symm
            rw [show a (12 + 10 * bb) * a (12 + 10 * bb + 1) * a (12 + 10 * bb + 2) * a (12 + 10 * bb + 3) / 10000 = qa_w a bb from rfl]
            refine zz_i2f C dX1_axle_44 ?_
            refine zz_joinI (pcJ := 58) (fx_f c2 i) ?_ ?_
            · rintro z58 rfl
              refine zz_i2f C dX1_axle_58 ?_
              refine zz_fmul C dX1_axle_59 (fx_m_k c2 (hwf.wk bb hbb) (by omega)).nn ?_
              refine zz_ldcF C rfl q787 dX1_axle_60 ?_
              refine zz_fdiv C dX1_axle_62 (fx_w_k c2 (hwf.wk bb hbb) (by omega)).nn ?_
              refine zz_fadd C dX1_axle_63 (fs_k.add hA (fx_w_k c2 (hwf.wk bb hbb) (by omega)) (by decide) (by omega) (by omega)).nn ?_
              refine zz_fstore C dX1_axle_64 (by decide) ?_
              refine zz_iinc C dX1_axle_66 rfl (by first | exact nI_1 _ | exact (rfl : _ + Int32.ofInt 1 = _ + 1)) (by decide) ?_
              refine zz_goto (tgt := 6) C dX1_axle_69 (by decide) ?_
              first
              | (rw [show qa_ax a nb v1 c2 (nI b1) v4 i = qa_ax a nb v1 c2 (nI b1) v4 (i + 1) from (if_pos ebl).symm]
                 refine zz_widen (cs' := i + 1) (ss' := 4 * (i + 1)) (by omega) (by omega) ?_
                 exact zz_loc2 (ih (i + 1) (by omega) (by omega)) ⟨rfl, rfl, rfl, rfl, rfl, rfl, rfl, trivial⟩)
              | (have eA : FP.fadd (qa_ax a nb v1 c2 (nI b1) v4 i) (FP.fdiv (FP.fmul (FP.i2f (qa_w a bb)) (FP.i2f (fx_f c2 i))) 1082130432) = qa_ax a nb v1 c2 (nI b1) v4 (i + 1) := by
                   rw [show qa_ax a nb v1 c2 (nI b1) v4 (i + 1) = FP.fadd (qa_ax a nb v1 c2 (nI b1) v4 i) (fx_w (qa_w a (qa_bl a nb v1 (nI b1) v4 i).toNatClampNeg) c2 i) from if_neg (by rw [ebl]; exact qa_n6 (by omega)), ebl, nI_clamp (by omega)]
                   rfl
                 rw [eA]
                 refine zz_widen (cs' := i + 1) (ss' := 4 * (i + 1)) (by omega) (by omega) ?_
                 exact zz_loc2 (ih (i + 1) (by omega) (by omega)) ⟨rfl, rfl, rfl, rfl, rfl, rfl, rfl, trivial⟩)
              | (have eA : FP.fadd (qa_ax a nb v1 c2 (nI b1) v4 i) (FP.fdiv (FP.fmul (FP.i2f (qa_w a b1)) (FP.i2f (fx_f c2 i))) 1082130432) = qa_ax a nb v1 c2 (nI b1) v4 (i + 1) := by
                   rw [show qa_ax a nb v1 c2 (nI b1) v4 (i + 1) = FP.fadd (qa_ax a nb v1 c2 (nI b1) v4 i) (fx_w (qa_w a (qa_bl a nb v1 (nI b1) v4 i).toNatClampNeg) c2 i) from if_neg (by rw [ebl]; exact qa_n6 (by omega)), ebl, nI_clamp (by omega)]
                   rfl
                 rw [eA]
                 refine zz_widen (cs' := i + 1) (ss' := 4 * (i + 1)) (by omega) (by omega) ?_
                 exact zz_loc2 (ih (i + 1) (by omega) (by omega)) ⟨rfl, rfl, rfl, rfl, rfl, rfl, rfl, trivial⟩)
            · intro J58
              refine zz_iload_n C dX1_axle_45 rfl ?_
              first | refine zz_ifb_eq (tgt := 54) C dX1_axle_46 (by decide) (fun c46 => ?_) (fun c46 => ?_) | refine zz_if_eq (tgt := 54) C dX1_axle_46 (by decide) (fun c46 => ?_) (fun c46 => ?_)
              · refine zz_iconst (v := 4) C dX1_axle_54 (by decide) ?_
                refine zz_iload C dX1_axle_55 rfl ?_
                refine zz_isub C dX1_axle_57 ?_
                exact J58 _ (by unfold fx_f; first | exact (if_pos ‹_›).symm | exact (if_neg (by rw [‹c2 = false›]; decide)).symm)
              · refine zz_iload C dX1_axle_49 rfl ?_
                refine zz_goto (tgt := 58) C dX1_axle_51 (by decide) ?_
                exact J58 _ (by unfold fx_f; first | exact (if_pos ‹_›).symm | exact (if_neg (by rw [‹c2 = false›]; decide)).symm)
        · first | refine zz_aload_n C dX1_axle_19 rfl ?_ | refine zz_aload_nN C dX1_axle_19 rfl ?_
          skip
          · have ebl : qa_bl a nb v1 (nI b1) v4 i = nI b1 := if_pos ⟨c16, qa_n6 (by omega)⟩
            have hA := qa_ax_k (a := a) (l := v1) (more := (nI b1)) (free := v4) (rear := c2) hnb hwf.wk hm i (by omega)
            refine zz_goto (tgt := 30) C dX1_axle_20 (by decide) ?_
            refine zz_astore C dX1_axle_30 (by decide) ?_
            first | refine zz_aload C dX1_axle_32 rfl ?_ | refine zz_aloadN C dX1_axle_32 rfl ?_
            refine zz_ifnull C dX1_axle_34 ?_
            refine zz_fload C dX1_axle_37 rfl ?_
            first | refine zz_aload C dX1_axle_39 rfl ?_ | refine zz_aloadN C dX1_axle_39 rfl ?_
            refine zz_callV C zy_X3_weight (ct_X3_weight (hQ.gb hb1) (hQ.gz hb1)) rfl q571 (hQ.gb hb1) rfl rfl rfl rfl rfl rfl dX1_axle_41 ⟨by show (_ : Nat) ≤ 5; omega, by show (_ : Nat) ≤ 20; omega⟩ (fun v hz hp => ?_)
            obtain ⟨rfl, ez⟩ := hp
            obtain rfl := ez.symm
            rw [show a (12 + 10 * b1) * a (12 + 10 * b1 + 1) * a (12 + 10 * b1 + 2) * a (12 + 10 * b1 + 3) / 10000 = qa_w a b1 from rfl]
            refine zz_i2f C dX1_axle_44 ?_
            refine zz_joinI (pcJ := 58) (fx_f c2 i) ?_ ?_
            · rintro z58 rfl
              refine zz_i2f C dX1_axle_58 ?_
              refine zz_fmul C dX1_axle_59 (fx_m_k c2 (hwf.wk b1 hb1) (by omega)).nn ?_
              refine zz_ldcF C rfl q787 dX1_axle_60 ?_
              refine zz_fdiv C dX1_axle_62 (fx_w_k c2 (hwf.wk b1 hb1) (by omega)).nn ?_
              refine zz_fadd C dX1_axle_63 (fs_k.add hA (fx_w_k c2 (hwf.wk b1 hb1) (by omega)) (by decide) (by omega) (by omega)).nn ?_
              refine zz_fstore C dX1_axle_64 (by decide) ?_
              refine zz_iinc C dX1_axle_66 rfl (by first | exact nI_1 _ | exact (rfl : _ + Int32.ofInt 1 = _ + 1)) (by decide) ?_
              refine zz_goto (tgt := 6) C dX1_axle_69 (by decide) ?_
              first
              | (rw [show qa_ax a nb v1 c2 (nI b1) v4 i = qa_ax a nb v1 c2 (nI b1) v4 (i + 1) from (if_pos ebl).symm]
                 refine zz_widen (cs' := i + 1) (ss' := 4 * (i + 1)) (by omega) (by omega) ?_
                 exact zz_loc2 (ih (i + 1) (by omega) (by omega)) ⟨rfl, rfl, rfl, rfl, rfl, rfl, rfl, trivial⟩)
              | (have eA : FP.fadd (qa_ax a nb v1 c2 (nI b1) v4 i) (FP.fdiv (FP.fmul (FP.i2f (qa_w a bb)) (FP.i2f (fx_f c2 i))) 1082130432) = qa_ax a nb v1 c2 (nI b1) v4 (i + 1) := by
                   rw [show qa_ax a nb v1 c2 (nI b1) v4 (i + 1) = FP.fadd (qa_ax a nb v1 c2 (nI b1) v4 i) (fx_w (qa_w a (qa_bl a nb v1 (nI b1) v4 i).toNatClampNeg) c2 i) from if_neg (by rw [ebl]; exact qa_n6 (by omega)), ebl, nI_clamp (by omega)]
                   rfl
                 rw [eA]
                 refine zz_widen (cs' := i + 1) (ss' := 4 * (i + 1)) (by omega) (by omega) ?_
                 exact zz_loc2 (ih (i + 1) (by omega) (by omega)) ⟨rfl, rfl, rfl, rfl, rfl, rfl, rfl, trivial⟩)
              | (have eA : FP.fadd (qa_ax a nb v1 c2 (nI b1) v4 i) (FP.fdiv (FP.fmul (FP.i2f (qa_w a b1)) (FP.i2f (fx_f c2 i))) 1082130432) = qa_ax a nb v1 c2 (nI b1) v4 (i + 1) := by
                   rw [show qa_ax a nb v1 c2 (nI b1) v4 (i + 1) = FP.fadd (qa_ax a nb v1 c2 (nI b1) v4 i) (fx_w (qa_w a (qa_bl a nb v1 (nI b1) v4 i).toNatClampNeg) c2 i) from if_neg (by rw [ebl]; exact qa_n6 (by omega)), ebl, nI_clamp (by omega)]
                   rfl
                 rw [eA]
                 refine zz_widen (cs' := i + 1) (ss' := 4 * (i + 1)) (by omega) (by omega) ?_
                 exact zz_loc2 (ih (i + 1) (by omega) (by omega)) ⟨rfl, rfl, rfl, rfl, rfl, rfl, rfl, trivial⟩)
            · intro J58
              refine zz_iload_n C dX1_axle_45 rfl ?_
              first | refine zz_ifb_eq (tgt := 54) C dX1_axle_46 (by decide) (fun c46 => ?_) (fun c46 => ?_) | refine zz_if_eq (tgt := 54) C dX1_axle_46 (by decide) (fun c46 => ?_) (fun c46 => ?_)
              · refine zz_iconst (v := 4) C dX1_axle_54 (by decide) ?_
                refine zz_iload C dX1_axle_55 rfl ?_
                refine zz_isub C dX1_axle_57 ?_
                exact J58 _ (by unfold fx_f; first | exact (if_pos ‹_›).symm | exact (if_neg (by rw [‹c2 = false›]; decide)).symm)
              · refine zz_iload C dX1_axle_49 rfl ?_
                refine zz_goto (tgt := 58) C dX1_axle_51 (by decide) ?_
                exact J58 _ (by unfold fx_f; first | exact (if_pos ‹_›).symm | exact (if_neg (by rw [‹c2 = false›]; decide)).symm)
  exact zz_loc2 (L6 6 0 (by omega) (by omega)) ⟨rfl, rfl, rfl, rfl, rfl, rfl, rfl, trivial⟩

theorem ct_X1_why {l : Launch} {D : va_G} {b0 : Nat} {h : zz_H} {q : Nat} {ow : Nat → Nat × Nat} {ad sz : Nat → Nat} {a : Nat → Int32} {nb no : Nat} (hwf : wfn a nb no) (hQ : qu_I D h ow q ad sz a nb no) {l1 : Nat} {v1 : Int32} (hv1 : v1 = nI l1) (hl1 : l1 < 3)  : zz_Ct l D b0 yX1_why cX1_why 2 (some .int) 5 112 20 100 [.ref q, .int v1] h (fun v h' => v = some (.int (qa_why a nb v1)) ∧ h' = h) := by
  refine zz_Ct.of zy_X1_why.1 rfl ?_
  intro p e s m below meth c C
  have hq := hQ.gq
  have eln : v1.toNatClampNeg = l1 := by rw [hv1]; exact nI_clamp (by omega)
  obtain ⟨ff, hff, eff⟩ := hQ.gl 0 (by decide)
  obtain ⟨fr, hfr, efr⟩ := hQ.gl 1 (by decide)
  obtain ⟨fl, hfl, efl⟩ := hQ.gl 2 (by decide)
  first | refine zz_aload_n C dX1_why_0 rfl ?_ | refine zz_aload_nN C dX1_why_0 rfl ?_
  refine zz_iload_n C dX1_why_1 rfl ?_
  refine zz_callV C zy_X1_blocksOn (ct_X1_blocksOn hwf hQ hv1 hl1) rfl q773 hq rfl rfl rfl rfl rfl rfl dX1_why_2 ⟨Nat.le_of_ble_eq_true rfl, Nat.le_of_ble_eq_true rfl⟩ (fun v hz hp => ?_)
  obtain ⟨rfl, ez⟩ := hp
  obtain rfl := ez.symm
  refine zz_if_ne (tgt := 10) C dX1_why_5 (by decide) (fun c5 => ?_) (fun c5 => ?_)
  · first | refine zz_aload_n C dX1_why_10 rfl ?_ | refine zz_aload_nN C dX1_why_10 rfl ?_
    refine zz_iload_n C dX1_why_11 rfl ?_
    refine zz_callV C zy_X1_hasCracked (ct_X1_hasCracked hwf hQ hv1 hl1) rfl q777 hq rfl rfl rfl rfl rfl rfl dX1_why_12 ⟨Nat.le_of_ble_eq_true rfl, Nat.le_of_ble_eq_true rfl⟩ (fun v hz hp => ?_)
    obtain ⟨rfl, ez⟩ := hp
    obtain rfl := ez.symm
    first | refine zz_ifb_eq (tgt := 20) C dX1_why_15 (by decide) (fun c15 => ?_) (fun c15 => ?_) | refine zz_if_eq (tgt := 20) C dX1_why_15 (by decide) (fun c15 => ?_) (fun c15 => ?_)
    · first | refine zz_aload_n C dX1_why_20 rfl ?_ | refine zz_aload_nN C dX1_why_20 rfl ?_
      refine zz_iload_n C dX1_why_21 rfl ?_
      refine zz_callV C zy_X1_loadOf (ct_X1_loadOf hwf hQ hv1 hl1) rfl q781 hq rfl rfl rfl rfl rfl rfl dX1_why_22 ⟨Nat.le_of_ble_eq_true rfl, Nat.le_of_ble_eq_true rfl⟩ (fun v hz hp => ?_)
      obtain ⟨rfl, ez⟩ := hp
      obtain rfl := ez.symm
      first | refine zz_aload_n C dX1_why_25 rfl ?_ | refine zz_aload_nN C dX1_why_25 rfl ?_
      refine zz_get C rfl hq rfl in_X1 3 rfl q179 (fun _ h => h) (by first | rfl | assumption) dX1_why_26 ?_
      refine zz_iload_n C dX1_why_29 rfl ?_
      refine zz_iald C hfl hv1 (by omega) (by omega) dX1_why_30 ?_
      rw [efl l1 hl1]
      refine zz_icmp_le (tgt := 36) C dX1_why_31 (by decide) (fun c31 => ?_) (fun c31 => ?_)
      · first | refine zz_aload_n C dX1_why_36 rfl ?_ | refine zz_aload_nN C dX1_why_36 rfl ?_
        refine zz_iload_n C dX1_why_37 rfl ?_
        refine zz_iconst (v := 0) C dX1_why_38 (by decide) ?_
        refine zz_null C dX1_why_39 ?_
        refine zz_bipush (v := (-6)) C dX1_why_40 (by decide) ?_
        refine zz_callV C zy_X1_axle (ct_X1_axle0 (c2 := false) hwf hQ hv1 hl1) rfl q782 hq rfl rfl rfl rfl rfl rfl dX1_why_42 ⟨Nat.le_of_ble_eq_true rfl, Nat.le_of_ble_eq_true rfl⟩ (fun v hz hp => ?_)
        obtain ⟨rfl, ez⟩ := hp
        obtain rfl := ez.symm
        first | refine zz_aload_n C dX1_why_45 rfl ?_ | refine zz_aload_nN C dX1_why_45 rfl ?_
        refine zz_get C rfl hq rfl in_X1 1 rfl q175 (fun _ h => h) (by first | rfl | assumption) dX1_why_46 ?_
        refine zz_iload_n C dX1_why_49 rfl ?_
        refine zz_iald C hff hv1 (by omega) (by omega) dX1_why_50 ?_
        rw [eff l1 hl1]
        refine zz_i2f C dX1_why_51 ?_
        refine zz_fcmp C dX1_why_52 ?_
        refine zz_if_le (tgt := 60) C dX1_why_53 (by decide) (fun c53 => ?_) (fun c53 => ?_)
        · first | refine zz_aload_n C dX1_why_60 rfl ?_ | refine zz_aload_nN C dX1_why_60 rfl ?_
          refine zz_iload_n C dX1_why_61 rfl ?_
          refine zz_iconst (v := 1) C dX1_why_62 (by decide) ?_
          refine zz_null C dX1_why_63 ?_
          refine zz_bipush (v := (-6)) C dX1_why_64 (by decide) ?_
          refine zz_callV C zy_X1_axle (ct_X1_axle0 (c2 := true) hwf hQ hv1 hl1) rfl q782 hq rfl rfl rfl rfl rfl rfl dX1_why_66 ⟨Nat.le_of_ble_eq_true rfl, Nat.le_of_ble_eq_true rfl⟩ (fun v hz hp => ?_)
          obtain ⟨rfl, ez⟩ := hp
          obtain rfl := ez.symm
          first | refine zz_aload_n C dX1_why_69 rfl ?_ | refine zz_aload_nN C dX1_why_69 rfl ?_
          refine zz_get C rfl hq rfl in_X1 2 rfl q177 (fun _ h => h) (by first | rfl | assumption) dX1_why_70 ?_
          refine zz_iload_n C dX1_why_73 rfl ?_
          refine zz_iald C hfr hv1 (by omega) (by omega) dX1_why_74 ?_
          rw [efr l1 hl1]
          refine zz_i2f C dX1_why_75 ?_
          refine zz_fcmp C dX1_why_76 ?_
          refine zz_if_le (tgt := 84) C dX1_why_77 (by decide) (fun c77 => ?_) (fun c77 => ?_)
          · refine zz_iconst (v := 0) C dX1_why_84 (by decide) ?_
            refine zz_iret C dX1_why_85 rfl rfl ?_
            refine ⟨?_, rfl⟩
            unfold qa_why
            rw [eln]
            first
            | (rw [if_pos c5]; done)
            | (rw [if_neg c5, if_pos c15]; done)
            | (rw [if_neg c5, if_neg (show ¬ qa_hc a nb v1 5 = true from by rw [c15]; decide), if_pos c31]; done)
            | (rw [if_neg c5, if_neg (show ¬ qa_hc a nb v1 5 = true from by rw [c15]; decide), if_neg (Decidable.not_not.mpr c31), if_pos c53]; done)
            | (rw [if_neg c5, if_neg (show ¬ qa_hc a nb v1 5 = true from by rw [c15]; decide), if_neg (Decidable.not_not.mpr c31), if_neg (Decidable.not_not.mpr c53), if_pos c77]; done)
            | (rw [if_neg c5, if_neg (show ¬ qa_hc a nb v1 5 = true from by rw [c15]; decide), if_neg (Decidable.not_not.mpr c31), if_neg (Decidable.not_not.mpr c53), if_neg (Decidable.not_not.mpr c77)]; done)
          · refine zz_iconst (v := 5) C dX1_why_80 (by decide) ?_
            refine zz_goto (tgt := 85) C dX1_why_81 (by decide) ?_
            refine zz_iret C dX1_why_85 rfl rfl ?_
            refine ⟨?_, rfl⟩
            unfold qa_why
            rw [eln]
            first
            | (rw [if_pos c5]; done)
            | (rw [if_neg c5, if_pos c15]; done)
            | (rw [if_neg c5, if_neg (show ¬ qa_hc a nb v1 5 = true from by rw [c15]; decide), if_pos c31]; done)
            | (rw [if_neg c5, if_neg (show ¬ qa_hc a nb v1 5 = true from by rw [c15]; decide), if_neg (Decidable.not_not.mpr c31), if_pos c53]; done)
            | (rw [if_neg c5, if_neg (show ¬ qa_hc a nb v1 5 = true from by rw [c15]; decide), if_neg (Decidable.not_not.mpr c31), if_neg (Decidable.not_not.mpr c53), if_pos c77]; done)
            | (rw [if_neg c5, if_neg (show ¬ qa_hc a nb v1 5 = true from by rw [c15]; decide), if_neg (Decidable.not_not.mpr c31), if_neg (Decidable.not_not.mpr c53), if_neg (Decidable.not_not.mpr c77)]; done)
        · refine zz_iconst (v := 4) C dX1_why_56 (by decide) ?_
          refine zz_goto (tgt := 85) C dX1_why_57 (by decide) ?_
          refine zz_iret C dX1_why_85 rfl rfl ?_
          refine ⟨?_, rfl⟩
          unfold qa_why
          rw [eln]
          first
          | (rw [if_pos c5]; done)
          | (rw [if_neg c5, if_pos c15]; done)
          | (rw [if_neg c5, if_neg (show ¬ qa_hc a nb v1 5 = true from by rw [c15]; decide), if_pos c31]; done)
          | (rw [if_neg c5, if_neg (show ¬ qa_hc a nb v1 5 = true from by rw [c15]; decide), if_neg (Decidable.not_not.mpr c31), if_pos c53]; done)
          | (rw [if_neg c5, if_neg (show ¬ qa_hc a nb v1 5 = true from by rw [c15]; decide), if_neg (Decidable.not_not.mpr c31), if_neg (Decidable.not_not.mpr c53), if_pos c77]; done)
          | (rw [if_neg c5, if_neg (show ¬ qa_hc a nb v1 5 = true from by rw [c15]; decide), if_neg (Decidable.not_not.mpr c31), if_neg (Decidable.not_not.mpr c53), if_neg (Decidable.not_not.mpr c77)]; done)
      · refine zz_iconst (v := 3) C dX1_why_34 (by decide) ?_
        refine zz_iret C dX1_why_35 rfl rfl ?_
        refine ⟨?_, rfl⟩
        unfold qa_why
        rw [eln]
        first
        | (rw [if_pos c5]; done)
        | (rw [if_neg c5, if_pos c15]; done)
        | (rw [if_neg c5, if_neg (show ¬ qa_hc a nb v1 5 = true from by rw [c15]; decide), if_pos c31]; done)
        | (rw [if_neg c5, if_neg (show ¬ qa_hc a nb v1 5 = true from by rw [c15]; decide), if_neg (Decidable.not_not.mpr c31), if_pos c53]; done)
        | (rw [if_neg c5, if_neg (show ¬ qa_hc a nb v1 5 = true from by rw [c15]; decide), if_neg (Decidable.not_not.mpr c31), if_neg (Decidable.not_not.mpr c53), if_pos c77]; done)
        | (rw [if_neg c5, if_neg (show ¬ qa_hc a nb v1 5 = true from by rw [c15]; decide), if_neg (Decidable.not_not.mpr c31), if_neg (Decidable.not_not.mpr c53), if_neg (Decidable.not_not.mpr c77)]; done)
    · refine zz_iconst (v := 2) C dX1_why_18 (by decide) ?_
      refine zz_iret C dX1_why_19 rfl rfl ?_
      refine ⟨?_, rfl⟩
      unfold qa_why
      rw [eln]
      first
      | (rw [if_pos c5]; done)
      | (rw [if_neg c5, if_pos c15]; done)
      | (rw [if_neg c5, if_neg (show ¬ qa_hc a nb v1 5 = true from by rw [c15]; decide), if_pos c31]; done)
      | (rw [if_neg c5, if_neg (show ¬ qa_hc a nb v1 5 = true from by rw [c15]; decide), if_neg (Decidable.not_not.mpr c31), if_pos c53]; done)
      | (rw [if_neg c5, if_neg (show ¬ qa_hc a nb v1 5 = true from by rw [c15]; decide), if_neg (Decidable.not_not.mpr c31), if_neg (Decidable.not_not.mpr c53), if_pos c77]; done)
      | (rw [if_neg c5, if_neg (show ¬ qa_hc a nb v1 5 = true from by rw [c15]; decide), if_neg (Decidable.not_not.mpr c31), if_neg (Decidable.not_not.mpr c53), if_neg (Decidable.not_not.mpr c77)]; done)
  · refine zz_iconst (v := 1) C dX1_why_8 (by decide) ?_
    refine zz_iret C dX1_why_9 rfl rfl ?_
    refine ⟨?_, rfl⟩
    unfold qa_why
    rw [eln]
    first
    | (rw [if_pos c5]; done)
    | (rw [if_neg c5, if_pos c15]; done)
    | (rw [if_neg c5, if_neg (show ¬ qa_hc a nb v1 5 = true from by rw [c15]; decide), if_pos c31]; done)
    | (rw [if_neg c5, if_neg (show ¬ qa_hc a nb v1 5 = true from by rw [c15]; decide), if_neg (Decidable.not_not.mpr c31), if_pos c53]; done)
    | (rw [if_neg c5, if_neg (show ¬ qa_hc a nb v1 5 = true from by rw [c15]; decide), if_neg (Decidable.not_not.mpr c31), if_neg (Decidable.not_not.mpr c53), if_pos c77]; done)
    | (rw [if_neg c5, if_neg (show ¬ qa_hc a nb v1 5 = true from by rw [c15]; decide), if_neg (Decidable.not_not.mpr c31), if_neg (Decidable.not_not.mpr c53), if_neg (Decidable.not_not.mpr c77)]; done)

