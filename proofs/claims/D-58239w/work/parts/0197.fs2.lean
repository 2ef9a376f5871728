/-! floats: the steps of the loops that spell their bits -/
theorem fs_e {x : UInt32} {c : Nat} {q : Int} (h : FP.Core.decode FP.Core.b32 x.toNat = .fin false c q) (g1 : 8388608 ≤ c) (g2 : c < 16777216) (g3 : (-149) ≤ q) (g4 : q ≤ 104) : fs_n x c q := ⟨h, g1, g2, g3, g4⟩
theorem fs_1n : fs_n FP.fconst1 8388608 (-23) := ⟨by decide +kernel, by decide, by decide, by decide, by decide⟩
theorem fs_2n : fs_n FP.fconst2 8388608 (1 - 23) := ⟨by decide +kernel, by decide, by decide, by decide, by decide⟩
theorem fs_hn : fs_n 1056964608 8388608 (-1 - 23) := ⟨by decide +kernel, by decide, by decide, by decide, by decide⟩
theorem fs_bn : fs_n 1258291200 8388608 0 := ⟨by decide +kernel, by decide, by decide, by decide, by decide⟩
theorem fs_mulp {x z : UInt32} {c : Nat} {q r : Int} (hx : fs_n x c q) (hz : fs_n z 8388608 r) (h1 : (-149) ≤ q + r + 23) (h2 : q + r + 23 ≤ 104) : fs_n (FP.fmul x z) c (q + r + 23) := by
  obtain ⟨x0, x1, x2, -, -⟩ := hx
  have e1 : FP.fmul x z = .ofNat (FP.Core.encode FP.Core.b32 (FP.Core.roundRatio FP.Core.b32 false (c * 8388608) 1 (q + r))) := by
    show UInt32.ofNat (FP.Core.encode FP.Core.b32 (FP.Core.round FP.Core.b32 (FP.Core.exactProduct (FP.Core.decode FP.Core.b32 x.toNat) (FP.Core.decode FP.Core.b32 z.toNat)))) = _
    rw [x0, hz.1]
    rfl
  rw [e1]
  exact fs_ex (x := 0) (y := 23) (by decide) x1 x2 (by omega) (by omega) h1 h2
theorem fs_dbl {x : UInt32} {c : Nat} {q : Int} (hx : fs_n x c q) (h2 : q < 104) : fs_n (FP.fmul x FP.fconst2) c (q + 1) := by
  have h := fs_mulp hx fs_2n (by have := hx.2.2.2.1; omega) (by omega)
  rw [show q + (1 - 23) + 23 = q + 1 by omega] at h
  exact h
theorem fs_hlf {x : UInt32} {c : Nat} {q : Int} (hx : fs_n x c q) (h2 : (-149) < q) : fs_n (FP.fmul x 1056964608) c (q - 1) := by
  have h := fs_mulp hx fs_hn (by omega) (by have := hx.2.2.2.2; omega)
  rw [show q + (-1 - 23) + 23 = q - 1 by omega] at h
  exact h
theorem fs_nd {x : UInt32} {c : Nat} {q : Int} (hx : fs_n x c q) : ∃ c q, FP.Core.decode FP.Core.b32 x.toNat = .fin false c q ∧ (-149) ≤ q := ⟨c, q, hx.1, hx.2.2.2.1⟩
theorem fs_0d : ∃ c q, FP.Core.decode FP.Core.b32 (FP.fconst0 : UInt32).toNat = .fin false c q ∧ (-149) ≤ q := ⟨0, _, fs_zero, by decide⟩
theorem fs_vp {x : UInt32} {c : Nat} {q : Int} (hx : fs_n x c q) (r : Int) (hr : (-149) ≤ r) : 8388608 * 2 ^ (r + 149).toNat ≤ fs_v x ↔ r ≤ q := by
  obtain ⟨x0, x1, x2, x3, -⟩ := id hx
  rw [fs_vn hx]
  constructor
  · intro h
    refine Int.not_lt.mp (fun hlt => ?_)
    have e : (r + 149).toNat = 1 + ((r - q - 1).toNat + (q + 149).toNat) := by omega
    rw [e, Nat.pow_add, Nat.pow_add, ← Nat.mul_assoc, ← Nat.mul_assoc] at h
    have h' := Nat.le_of_mul_le_mul_right h (Nat.two_pow_pos _)
    have : 1 ≤ 2 ^ (r - q - 1).toNat := Nat.one_le_two_pow
    have : 8388608 * 2 ^ 1 * 1 ≤ 8388608 * 2 ^ 1 * 2 ^ (r - q - 1).toNat := Nat.mul_le_mul_left _ this
    omega
  · intro h
    refine Nat.le_trans (Nat.mul_le_mul_right _ x1) (Nat.mul_le_mul_left _ (Nat.pow_le_pow_right (by decide) (by omega)))
theorem fs_cv {x z : UInt32} (op : CmpOp) (hx : ∃ c q, FP.Core.decode FP.Core.b32 x.toNat = .fin false c q ∧ (-149) ≤ q) (hz : ∃ c q, FP.Core.decode FP.Core.b32 z.toNat = .fin false c q ∧ (-149) ≤ q) : Op.cmpValue (FP.fcmp x z) op = if fs_v x < fs_v z then -1 else if fs_v x = fs_v z then 0 else 1 := by
  rw [fs_cmp hx hz]
  by_cases h1 : fs_v x < fs_v z
  · rw [if_pos h1, fl_clt (by omega)]; rfl
  · by_cases h2 : fs_v x = fs_v z
    · rw [if_neg h1, if_pos h2, fl_ceq (by omega)]; rfl
    · rw [if_neg h1, if_neg h2, fl_cgt (by omega)]; rfl
theorem fs_lt {x z : UInt32} (op : CmpOp) (hx : ∃ c q, FP.Core.decode FP.Core.b32 x.toNat = .fin false c q ∧ (-149) ≤ q) (hz : ∃ c q, FP.Core.decode FP.Core.b32 z.toNat = .fin false c q ∧ (-149) ≤ q) : Op.cmpValue (FP.fcmp x z) op < 0 ↔ fs_v x < fs_v z := by
  rw [fs_cv op hx hz]
  split
  · exact ⟨fun _ => ‹_›, fun _ => by decide⟩
  · split
    · exact ⟨fun q => absurd q (by decide), fun q => absurd q ‹_›⟩
    · exact ⟨fun q => absurd q (by decide), fun q => absurd q ‹_›⟩
theorem fs_ge {x z : UInt32} (op : CmpOp) (hx : ∃ c q, FP.Core.decode FP.Core.b32 x.toNat = .fin false c q ∧ (-149) ≤ q) (hz : ∃ c q, FP.Core.decode FP.Core.b32 z.toNat = .fin false c q ∧ (-149) ≤ q) : 0 ≤ Op.cmpValue (FP.fcmp x z) op ↔ fs_v z ≤ fs_v x := by
  rw [← Int32.not_lt, fs_lt op hx hz, Nat.not_lt]
theorem fs_le {x z : UInt32} (op : CmpOp) (hx : ∃ c q, FP.Core.decode FP.Core.b32 x.toNat = .fin false c q ∧ (-149) ≤ q) (hz : ∃ c q, FP.Core.decode FP.Core.b32 z.toNat = .fin false c q ∧ (-149) ≤ q) : Op.cmpValue (FP.fcmp x z) op ≤ 0 ↔ fs_v x ≤ fs_v z := by
  rw [fs_cv op hx hz]
  split
  · exact ⟨fun _ => by omega, fun _ => by decide⟩
  · split
    · exact ⟨fun _ => by omega, fun _ => by decide⟩
    · exact ⟨fun q => absurd q (by decide), fun q => by omega⟩
theorem fs_ne0 {x : UInt32} {lo hi : Int} (op : CmpOp) (hx : fs_k lo hi x) : Op.cmpValue (FP.fcmp x FP.fconst0) op = 0 ↔ x = 0 := by
  rw [fs_cv op (fs_dk hx) fs_0d, show fs_v FP.fconst0 = 0 from fs_v0, if_neg (Nat.not_lt_zero _)]
  rcases hx with rfl | ⟨c, q, hx, -, -⟩
  · rw [fs_v0]
    exact ⟨fun _ => rfl, fun _ => rfl⟩
  · have h1 : ¬ fs_v x = 0 := by
      rw [fs_vn hx]
      have := hx.2.1
      exact Nat.mul_ne_zero (by omega) (Nat.ne_of_gt (Nat.two_pow_pos _))
    rw [if_neg h1]
    exact ⟨fun q => absurd q (by decide), fun q => absurd (by rw [q]; exact fs_v0) h1⟩
/-- what is ahead of the point is taken away; what is left is a whole number of last places -/
theorem fs_frac {x : UInt32} {c : Nat} (hx : fs_n x c (-23)) : (FP.fsub x FP.fconst1 = 0 ∧ c = 8388608) ∨ ∃ s : Nat, s ≤ 23 ∧ fs_n (FP.fsub x FP.fconst1) ((c - 8388608) * 2 ^ s) (-23 - s) := by
  obtain ⟨x0, x1, x2, -, -⟩ := hx
  have e1 : FP.fsub x FP.fconst1 = .ofNat (FP.Core.encode FP.Core.b32 (FP.Core.roundRatio FP.Core.b32 false (c - 8388608) 1 (-23))) := by
    show UInt32.ofNat (FP.Core.encode FP.Core.b32 (FP.Core.round FP.Core.b32 (FP.Core.exactSum (FP.Core.decode FP.Core.b32 x.toNat) (FP.Core.negate (FP.Core.decode FP.Core.b32 FP.fconst1.toNat))))) = _
    rw [x0, fs_1n.1]
    have ev : FP.Core.sumUnits false c (-23) true 8388608 (-23) (min (-23) (-23)) = ((c - 8388608 : Nat) : Int) := by
      unfold FP.Core.sumUnits FP.Core.signed FP.Core.inUnits
      rw [Int.min_self, show ((-23 : Int) - -23).toNat = 0 by decide]
      simp
      omega
    show UInt32.ofNat (FP.Core.encode FP.Core.b32 (FP.Core.round FP.Core.b32 (FP.Core.Datum.fin (FP.Core.sumSign false true (FP.Core.sumUnits false c (-23) true 8388608 (-23) (min (-23) (-23)))) (FP.Core.sumUnits false c (-23) true 8388608 (-23) (min (-23) (-23))).natAbs (min (-23) (-23))))) = _
    rw [ev, Int.min_self, show FP.Core.sumSign false true ((c - 8388608 : Nat) : Int) = false by unfold FP.Core.sumSign; split; rfl; exact decide_eq_false (Int.not_lt.mpr (Int.natCast_nonneg _)), Int.natAbs_natCast]
    rfl
  rw [e1]
  rcases Nat.eq_zero_or_pos (c - 8388608) with hT | hT
  · left
    rw [hT]
    exact ⟨fs_r0, by omega⟩
  · right
    obtain ⟨T, hTe⟩ : ∃ T, c - 8388608 = T := ⟨_, rfl⟩
    rw [hTe] at hT ⊢
    have l1 : 2 ^ T.log2 ≤ T := Nat.log2_self_le (by omega)
    have l2 : T < 2 ^ (T.log2 + 1) := Nat.lt_log2_self
    have l3 : T.log2 < 23 := (Nat.pow_lt_pow_iff_right (a := 2) (by decide)).mp (Nat.lt_of_le_of_lt l1 (by show T < 8388608; omega))
    refine ⟨23 - T.log2, by omega, ?_⟩
    refine fs_ex (x := 23 - T.log2) (y := 0) (by decide) ?_ ?_ (by rw [Nat.pow_zero, Nat.mul_one, Nat.mul_one]) (by omega) (by omega) (by omega)
    · have := Nat.mul_le_mul_right (2 ^ (23 - T.log2)) l1
      rw [← Nat.pow_add, show T.log2 + (23 - T.log2) = 23 by omega] at this
      exact this
    · have := Nat.mul_lt_mul_of_pos_right l2 (Nat.two_pow_pos (23 - T.log2))
      rw [← Nat.pow_add, show T.log2 + 1 + (23 - T.log2) = 24 by omega] at this
      exact this
theorem fs_tail {x : UInt32} {c : Nat} (hx : fs_n x c (-23)) : FP.f2i (FP.fmul (FP.fsub x FP.fconst1) 1258291200) = Int32.ofNat (c - 8388608) ∧ vf_n32 (FP.fsub x FP.fconst1) ∧ vf_n32 (FP.fmul (FP.fsub x FP.fconst1) 1258291200) := by
  have hc := hx.2.2.1
  rcases fs_frac hx with ⟨h1, h2⟩ | ⟨s, hs, h1⟩
  · rw [h1, (fs_m0 fs_bn).1, h2]
    exact ⟨by decide +kernel, by unfold vf_n32; decide, by unfold vf_n32; decide⟩
  · have h2 := fs_mulp h1 fs_bn (by omega) (by omega)
    refine ⟨?_, h1.nn, h2.nn⟩
    show FP.Core.toI (FP.Core.decode FP.Core.b32 (FP.fmul (FP.fsub x FP.fconst1) 1258291200).toNat) = _
    rw [h2.1]
    unfold FP.Core.toI FP.Core.toInt FP.Core.truncate FP.Core.signed
    show Int32.ofInt (max _ (min _ (if false = true then _ else _))) = _
    rw [if_neg (by decide), show (-23 - (s : Int) + 0 + 23).toNat = 0 by omega, show (-(-23 - (s : Int) + 0 + 23)).toNat = s by omega, Nat.pow_zero, Nat.mul_one, Nat.mul_div_cancel _ (Nat.two_pow_pos s)]
    rw [Int.min_eq_right (by omega), Int.max_eq_right (by omega)]
    exact Int32.ofInt_eq_ofNat (n := c - 8388608)
theorem fs_bi {x : UInt32} : Int32.ofNat x.toNat = x.toInt32 := by
  have h := UInt32.toInt32_ofNat' (n := x.toNat)
  rw [UInt32.ofNat_toNat] at h
  exact h.symm
