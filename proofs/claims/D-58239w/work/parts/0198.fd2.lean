/-! doubles: the steps of the loops that spell their bits -/
theorem fd_e {x : UInt64} {c : Nat} {q : Int} (h : FP.Core.decode FP.Core.b64 x.toNat = .fin false c q) (g1 : 4503599627370496 ≤ c) (g2 : c < 9007199254740992) (g3 : (-1074) ≤ q) (g4 : q ≤ 971) : fd_n x c q := ⟨h, g1, g2, g3, g4⟩
theorem fd_1n : fd_n FP.dconst1 4503599627370496 (-52) := ⟨by decide +kernel, by decide, by decide, by decide, by decide⟩
theorem fd_2n : fd_n 4611686018427387904 4503599627370496 (1 - 52) := ⟨by decide +kernel, by decide, by decide, by decide, by decide⟩
theorem fd_hn : fd_n 4602678819172646912 4503599627370496 (-1 - 52) := ⟨by decide +kernel, by decide, by decide, by decide, by decide⟩
theorem fd_bn : fd_n 4841369599423283200 4503599627370496 0 := ⟨by decide +kernel, by decide, by decide, by decide, by decide⟩
theorem fd_mulp {x z : UInt64} {c : Nat} {q r : Int} (hx : fd_n x c q) (hz : fd_n z 4503599627370496 r) (h1 : (-1074) ≤ q + r + 52) (h2 : q + r + 52 ≤ 971) : fd_n (FP.dmul x z) c (q + r + 52) := by
  obtain ⟨x0, x1, x2, -, -⟩ := hx
  have e1 : FP.dmul x z = .ofNat (FP.Core.encode FP.Core.b64 (FP.Core.roundRatio FP.Core.b64 false (c * 4503599627370496) 1 (q + r))) := by
    show UInt64.ofNat (FP.Core.encode FP.Core.b64 (FP.Core.round FP.Core.b64 (FP.Core.exactProduct (FP.Core.decode FP.Core.b64 x.toNat) (FP.Core.decode FP.Core.b64 z.toNat)))) = _
    rw [x0, hz.1]
    rfl
  rw [e1]
  exact fd_ex (x := 0) (y := 52) (by decide) x1 x2 (by omega) (by omega) h1 h2
theorem fd_dbl {x : UInt64} {c : Nat} {q : Int} (hx : fd_n x c q) (h2 : q < 971) : fd_n (FP.dmul x 4611686018427387904) c (q + 1) := by
  have h := fd_mulp hx fd_2n (by have := hx.2.2.2.1; omega) (by omega)
  rw [show q + (1 - 52) + 52 = q + 1 by omega] at h
  exact h
theorem fd_hlf {x : UInt64} {c : Nat} {q : Int} (hx : fd_n x c q) (h2 : (-1074) < q) : fd_n (FP.dmul x 4602678819172646912) c (q - 1) := by
  have h := fd_mulp hx fd_hn (by omega) (by have := hx.2.2.2.2; omega)
  rw [show q + (-1 - 52) + 52 = q - 1 by omega] at h
  exact h
theorem fd_nd {x : UInt64} {c : Nat} {q : Int} (hx : fd_n x c q) : ∃ c q, FP.Core.decode FP.Core.b64 x.toNat = .fin false c q ∧ (-1074) ≤ q := ⟨c, q, hx.1, hx.2.2.2.1⟩
theorem fd_0d : ∃ c q, FP.Core.decode FP.Core.b64 (FP.dconst0 : UInt64).toNat = .fin false c q ∧ (-1074) ≤ q := ⟨0, _, fd_zero, by decide⟩
theorem fd_vp {x : UInt64} {c : Nat} {q : Int} (hx : fd_n x c q) (r : Int) (hr : (-1074) ≤ r) : 4503599627370496 * 2 ^ (r + 1074).toNat ≤ fd_v x ↔ r ≤ q := by
  obtain ⟨x0, x1, x2, x3, -⟩ := id hx
  rw [fd_vn hx]
  constructor
  · intro h
    refine Int.not_lt.mp (fun hlt => ?_)
    have e : (r + 1074).toNat = 1 + ((r - q - 1).toNat + (q + 1074).toNat) := by omega
    rw [e, Nat.pow_add, Nat.pow_add, ← Nat.mul_assoc, ← Nat.mul_assoc] at h
    have h' := Nat.le_of_mul_le_mul_right h (Nat.two_pow_pos _)
    have : 1 ≤ 2 ^ (r - q - 1).toNat := Nat.one_le_two_pow
    have : 4503599627370496 * 2 ^ 1 * 1 ≤ 4503599627370496 * 2 ^ 1 * 2 ^ (r - q - 1).toNat := Nat.mul_le_mul_left _ this
    omega
  · intro h
    refine Nat.le_trans (Nat.mul_le_mul_right _ x1) (Nat.mul_le_mul_left _ (Nat.pow_le_pow_right (by decide) (by omega)))
theorem fd_cv {x z : UInt64} (op : CmpOp) (hx : ∃ c q, FP.Core.decode FP.Core.b64 x.toNat = .fin false c q ∧ (-1074) ≤ q) (hz : ∃ c q, FP.Core.decode FP.Core.b64 z.toNat = .fin false c q ∧ (-1074) ≤ q) : Op.cmpValue (FP.dcmp x z) op = if fd_v x < fd_v z then -1 else if fd_v x = fd_v z then 0 else 1 := by
  rw [fd_cmp hx hz]
  by_cases h1 : fd_v x < fd_v z
  · rw [if_pos h1, fl_clt (by omega)]; rfl
  · by_cases h2 : fd_v x = fd_v z
    · rw [if_neg h1, if_pos h2, fl_ceq (by omega)]; rfl
    · rw [if_neg h1, if_neg h2, fl_cgt (by omega)]; rfl
theorem fd_lt {x z : UInt64} (op : CmpOp) (hx : ∃ c q, FP.Core.decode FP.Core.b64 x.toNat = .fin false c q ∧ (-1074) ≤ q) (hz : ∃ c q, FP.Core.decode FP.Core.b64 z.toNat = .fin false c q ∧ (-1074) ≤ q) : Op.cmpValue (FP.dcmp x z) op < 0 ↔ fd_v x < fd_v z := by
  rw [fd_cv op hx hz]
  split
  · exact ⟨fun _ => ‹_›, fun _ => by decide⟩
  · split
    · exact ⟨fun q => absurd q (by decide), fun q => absurd q ‹_›⟩
    · exact ⟨fun q => absurd q (by decide), fun q => absurd q ‹_›⟩
theorem fd_ge {x z : UInt64} (op : CmpOp) (hx : ∃ c q, FP.Core.decode FP.Core.b64 x.toNat = .fin false c q ∧ (-1074) ≤ q) (hz : ∃ c q, FP.Core.decode FP.Core.b64 z.toNat = .fin false c q ∧ (-1074) ≤ q) : 0 ≤ Op.cmpValue (FP.dcmp x z) op ↔ fd_v z ≤ fd_v x := by
  rw [← Int32.not_lt, fd_lt op hx hz, Nat.not_lt]
theorem fd_le {x z : UInt64} (op : CmpOp) (hx : ∃ c q, FP.Core.decode FP.Core.b64 x.toNat = .fin false c q ∧ (-1074) ≤ q) (hz : ∃ c q, FP.Core.decode FP.Core.b64 z.toNat = .fin false c q ∧ (-1074) ≤ q) : Op.cmpValue (FP.dcmp x z) op ≤ 0 ↔ fd_v x ≤ fd_v z := by
  rw [fd_cv op hx hz]
  split
  · exact ⟨fun _ => by omega, fun _ => by decide⟩
  · split
    · exact ⟨fun _ => by omega, fun _ => by decide⟩
    · exact ⟨fun q => absurd q (by decide), fun q => by omega⟩
theorem fd_ne0 {x : UInt64} {lo hi : Int} (op : CmpOp) (hx : fd_k lo hi x) : Op.cmpValue (FP.dcmp x FP.dconst0) op = 0 ↔ x = 0 := by
  rw [fd_cv op (fd_dk hx) fd_0d, show fd_v FP.dconst0 = 0 from fd_v0, if_neg (Nat.not_lt_zero _)]
  rcases hx with rfl | ⟨c, q, hx, -, -⟩
  · rw [fd_v0]
    exact ⟨fun _ => rfl, fun _ => rfl⟩
  · have h1 : ¬ fd_v x = 0 := by
      rw [fd_vn hx]
      have := hx.2.1
      exact Nat.mul_ne_zero (by omega) (Nat.ne_of_gt (Nat.two_pow_pos _))
    rw [if_neg h1]
    exact ⟨fun q => absurd q (by decide), fun q => absurd (by rw [q]; exact fd_v0) h1⟩
/-- what is ahead of the point is taken away; what is left is a whole number of last places -/
theorem fd_frac {x : UInt64} {c : Nat} (hx : fd_n x c (-52)) : (FP.dsub x FP.dconst1 = 0 ∧ c = 4503599627370496) ∨ ∃ s : Nat, s ≤ 52 ∧ fd_n (FP.dsub x FP.dconst1) ((c - 4503599627370496) * 2 ^ s) (-52 - s) := by
  obtain ⟨x0, x1, x2, -, -⟩ := hx
  have e1 : FP.dsub x FP.dconst1 = .ofNat (FP.Core.encode FP.Core.b64 (FP.Core.roundRatio FP.Core.b64 false (c - 4503599627370496) 1 (-52))) := by
    show UInt64.ofNat (FP.Core.encode FP.Core.b64 (FP.Core.round FP.Core.b64 (FP.Core.exactSum (FP.Core.decode FP.Core.b64 x.toNat) (FP.Core.negate (FP.Core.decode FP.Core.b64 FP.dconst1.toNat))))) = _
    rw [x0, fd_1n.1]
    have ev : FP.Core.sumUnits false c (-52) true 4503599627370496 (-52) (min (-52) (-52)) = ((c - 4503599627370496 : Nat) : Int) := by
      unfold FP.Core.sumUnits FP.Core.signed FP.Core.inUnits
      rw [Int.min_self, show ((-52 : Int) - -52).toNat = 0 by decide]
      simp
      omega
    show UInt64.ofNat (FP.Core.encode FP.Core.b64 (FP.Core.round FP.Core.b64 (FP.Core.Datum.fin (FP.Core.sumSign false true (FP.Core.sumUnits false c (-52) true 4503599627370496 (-52) (min (-52) (-52)))) (FP.Core.sumUnits false c (-52) true 4503599627370496 (-52) (min (-52) (-52))).natAbs (min (-52) (-52))))) = _
    rw [ev, Int.min_self, show FP.Core.sumSign false true ((c - 4503599627370496 : Nat) : Int) = false by unfold FP.Core.sumSign; split; rfl; exact decide_eq_false (Int.not_lt.mpr (Int.natCast_nonneg _)), Int.natAbs_natCast]
    rfl
  rw [e1]
  rcases Nat.eq_zero_or_pos (c - 4503599627370496) with hT | hT
  · left
    rw [hT]
    exact ⟨fd_r0, by omega⟩
  · right
    obtain ⟨T, hTe⟩ : ∃ T, c - 4503599627370496 = T := ⟨_, rfl⟩
    rw [hTe] at hT ⊢
    have l1 : 2 ^ T.log2 ≤ T := Nat.log2_self_le (by omega)
    have l2 : T < 2 ^ (T.log2 + 1) := Nat.lt_log2_self
    have l3 : T.log2 < 52 := (Nat.pow_lt_pow_iff_right (a := 2) (by decide)).mp (Nat.lt_of_le_of_lt l1 (by show T < 4503599627370496; omega))
    refine ⟨52 - T.log2, by omega, ?_⟩
    refine fd_ex (x := 52 - T.log2) (y := 0) (by decide) ?_ ?_ (by rw [Nat.pow_zero, Nat.mul_one, Nat.mul_one]) (by omega) (by omega) (by omega)
    · have := Nat.mul_le_mul_right (2 ^ (52 - T.log2)) l1
      rw [← Nat.pow_add, show T.log2 + (52 - T.log2) = 52 by omega] at this
      exact this
    · have := Nat.mul_lt_mul_of_pos_right l2 (Nat.two_pow_pos (52 - T.log2))
      rw [← Nat.pow_add, show T.log2 + 1 + (52 - T.log2) = 53 by omega] at this
      exact this
theorem fd_tail {x : UInt64} {c : Nat} (hx : fd_n x c (-52)) : FP.d2l (FP.dmul (FP.dsub x FP.dconst1) 4841369599423283200) = Int64.ofNat (c - 4503599627370496) ∧ vf_n64 (FP.dsub x FP.dconst1) ∧ vf_n64 (FP.dmul (FP.dsub x FP.dconst1) 4841369599423283200) := by
  have hc := hx.2.2.1
  rcases fd_frac hx with ⟨h1, h2⟩ | ⟨s, hs, h1⟩
  · rw [h1, (fd_m0 fd_bn).1, h2]
    exact ⟨by decide +kernel, by unfold vf_n64; decide, by unfold vf_n64; decide⟩
  · have h2 := fd_mulp h1 fd_bn (by omega) (by omega)
    refine ⟨?_, h1.nn, h2.nn⟩
    show FP.Core.toL (FP.Core.decode FP.Core.b64 (FP.dmul (FP.dsub x FP.dconst1) 4841369599423283200).toNat) = _
    rw [h2.1]
    unfold FP.Core.toL FP.Core.toInt FP.Core.truncate FP.Core.signed
    show Int64.ofInt (max _ (min _ (if false = true then _ else _))) = _
    rw [if_neg (by decide), show (-52 - (s : Int) + 0 + 52).toNat = 0 by omega, show (-(-52 - (s : Int) + 0 + 52)).toNat = s by omega, Nat.pow_zero, Nat.mul_one, Nat.mul_div_cancel _ (Nat.two_pow_pos s)]
    rw [Int.min_eq_right (by omega), Int.max_eq_right (by omega)]
    exact Int64.ofInt_eq_ofNat (n := c - 4503599627370496)
theorem fd_bi {x : UInt64} : Int64.ofNat x.toNat = x.toInt64 := by
  have h := UInt64.toInt64_ofNat' (n := x.toNat)
  rw [UInt64.ofNat_toNat] at h
  exact h.symm
