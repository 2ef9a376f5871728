/-! small rows on compare -/
theorem fl_clt {a b : Int} (h : a < b) : compare a b = .lt := by
  show compareOfLessAndEq a b = _
  unfold compareOfLessAndEq
  rw [if_pos h]
theorem fl_ceq {a b : Int} (h : a = b) : compare a b = .eq := by
  show compareOfLessAndEq a b = _
  unfold compareOfLessAndEq
  rw [if_neg (by omega), if_pos h]
theorem fl_cgt {a b : Int} (h : b < a) : compare a b = .gt := by
  show compareOfLessAndEq a b = _
  unfold compareOfLessAndEq
  rw [if_neg (by omega), if_neg (by omega)]
/-! floats that are not below 0: +0, or c * 2^q -/
def fs_n (x : UInt32) (c : Nat) (q : Int) : Prop := FP.Core.decode FP.Core.b32 x.toNat = .fin false c q ∧ 8388608 ≤ c ∧ c < 16777216 ∧ (-149) ≤ q ∧ q ≤ 104
theorem fs_qmin : FP.Core.b32.qmin = (-149) := by decide
theorem fs_qmax : FP.Core.b32.qmax = 104 := by decide
theorem fs_tails : FP.Core.b32.tails = 8388608 := by decide +kernel
theorem fs_exps : FP.Core.b32.exps = 256 := by decide
theorem fs_pp : (2 : Nat) ^ FP.Core.b32.p = 16777216 := by decide +kernel
theorem fs_p : FP.Core.b32.p = 24 := rfl
theorem fs_enc {c : Nat} {q : Int} (h1 : 8388608 ≤ c) (h2 : c < 16777216) (h3 : (-149) ≤ q) (h4 : q ≤ 104) : FP.Core.encode FP.Core.b32 (.fin false c q) = (q + 150).toNat * 8388608 + (c - 8388608) := by
  unfold FP.Core.encode FP.Core.assemble
  rw [fs_tails, fs_exps, fs_qmin]
  show (if c < 8388608 then _ else ((false.toNat * 256 + ((q - (-149)).toNat + 1)) * 8388608 + (c - 8388608))) = _
  rw [if_neg (by omega), show false.toNat * 256 + ((q - (-149)).toNat + 1) = (q + 150).toNat by rw [show false.toNat = 0 from rfl]; omega]
theorem fs_of {c : Nat} {q : Int} (h1 : 8388608 ≤ c) (h2 : c < 16777216) (h3 : (-149) ≤ q) (h4 : q ≤ 104) : fs_n (.ofNat (FP.Core.encode FP.Core.b32 (.fin false c q))) c q := by
  refine ⟨?_, h1, h2, h3, h4⟩
  rw [fs_enc h1 h2 h3 h4]
  obtain ⟨E, hE⟩ : ∃ E : Nat, (q + 150).toNat = E := ⟨_, rfl⟩
  obtain ⟨T, hT⟩ : ∃ T : Nat, c - 8388608 = T := ⟨_, rfl⟩
  rw [hE, hT]
  have e1 : (UInt32.ofNat (E * 8388608 + T)).toNat = E * 8388608 + T := by
    rw [UInt32.toNat_ofNat']
    omega
  rw [e1]
  unfold FP.Core.decode FP.Core.fieldE FP.Core.fieldT FP.Core.fieldS
  rw [fs_tails, fs_exps, fs_qmin]
  rw [show (E * 8388608 + T) / 8388608 % 256 = E by omega, show (E * 8388608 + T) % 8388608 = T by omega, show (E * 8388608 + T) / 8388608 / 256 % 2 = 0 by omega]
  rw [if_neg (by omega), if_neg (by omega)]
  show FP.Core.Datum.fin false _ _ = _
  rw [show 8388608 + T = c by omega, show ((-149) + ((E : Int) - 1) : Int) = q by omega]
theorem fs_bits {x : UInt32} {c : Nat} {q : Int} (h : fs_n x c q) : x.toNat = (q + 150).toNat * 8388608 + (c - 8388608) := by
  obtain ⟨h0, h1, h2, h3, h4⟩ := h
  have hx : x.toNat < 4294967296 := x.toNat_lt
  unfold FP.Core.decode FP.Core.fieldE FP.Core.fieldT FP.Core.fieldS at h0
  rw [fs_tails, fs_exps, fs_qmin] at h0
  split at h0
  · split at h0
    · cases h0
    · cases h0
  split at h0
  · injection h0 with i1 i2 i3
    omega
  · injection h0 with i1 i2 i3
    have i4 : ¬ x.toNat / 8388608 / 256 % 2 = 1 := fun q => by rw [q] at i1; cases i1
    omega
theorem fs_eq {x z : UInt32} {c : Nat} {q : Int} (h : fs_n x c q) (g : fs_n z c q) : x = z := UInt32.toNat_inj.mp ((fs_bits h).trans (fs_bits g).symm)
/-- +0, or lo ≤ q ≤ hi -/
def fs_k (lo hi : Int) (x : UInt32) : Prop := x = 0 ∨ ∃ (c : Nat) (q : Int), fs_n x c q ∧ lo ≤ q ∧ q ≤ hi
theorem fs_n.k {x : UInt32} {c : Nat} {q lo hi : Int} (h : fs_n x c q) (h1 : lo ≤ q) (h2 : q ≤ hi) : fs_k lo hi x := Or.inr ⟨c, q, h, h1, h2⟩
theorem fs_k.wd {lo hi lo' hi' : Int} {x : UInt32} (h : fs_k lo hi x) (h1 : lo' ≤ lo) (h2 : hi ≤ hi') : fs_k lo' hi' x := by
  rcases h with h | ⟨c, q, h, g1, g2⟩
  · exact Or.inl h
  · exact Or.inr ⟨c, q, h, by omega, by omega⟩
theorem fs_n.nn {x : UInt32} {c : Nat} {q : Int} (h : fs_n x c q) : vf_n32 x := by
  have h0 := fs_bits h
  obtain ⟨-, h1, h2, h3, h4⟩ := h
  unfold vf_n32
  rw [UInt32.le_iff_toNat_le, UInt32.toNat_and]
  refine Nat.le_trans Nat.and_le_left ?_
  show x.toNat ≤ 2139095040
  omega
theorem fs_k.nn {lo hi : Int} {x : UInt32} (h : fs_k lo hi x) : vf_n32 x := by
  rcases h with rfl | ⟨c, q, h, -, -⟩
  · unfold vf_n32; decide
  · exact h.nn
theorem fs_zero : FP.Core.decode FP.Core.b32 (0 : UInt32).toNat = .fin false 0 (-149) := by decide +kernel
theorem fs_e0 : UInt32.ofNat (FP.Core.encode FP.Core.b32 (.fin false 0 (-149))) = 0 := by decide +kernel
/-- c * 2^q, rounded -/
theorem fs_rd {A B u v : Nat} {e q : Int} (hA : 0 < A) (hB : 0 < B) (h1 : B * 2 ^ u ≤ A * 2 ^ v) (h2 : A * 2 ^ v < B * 2 ^ (u + 1)) (hq : q = (u : Int) - v + e - 23) (h3 : (-149) ≤ q) (h4 : q < 104) : ∃ (c : Nat) (q' : Int), fs_n (.ofNat (FP.Core.encode FP.Core.b32 (FP.Core.roundRatio FP.Core.b32 false A B e))) c q' ∧ q ≤ q' ∧ q' ≤ q + 1 := by
  obtain ⟨c, q', g1, g2, g3, g4, g5⟩ := fl_rr (f := FP.Core.b32) (q := q) (e := e) (by decide) hA hB h1 h2 (by rw [fs_p]; omega) (by rw [fs_qmin]; exact h3) (by rw [fs_qmax]; exact h4)
  rw [fs_tails] at g2
  rw [fs_pp] at g3
  rw [g1]
  exact ⟨c, q', fs_of g2 g3 (by omega) (by omega), g4, g5⟩
theorem fs_ex {A B c x y : Nat} {e q : Int} (hB : 0 < B) (hc1 : 8388608 ≤ c) (hc2 : c < 16777216) (h : A * 2 ^ x = c * B * 2 ^ y) (hq : q - e = (y : Int) - x) (h3 : (-149) ≤ q) (h4 : q ≤ 104) : fs_n (.ofNat (FP.Core.encode FP.Core.b32 (FP.Core.roundRatio FP.Core.b32 false A B e))) c q := by
  rw [fl_re (f := FP.Core.b32) (by decide) hB (by rw [fs_tails]; exact hc1) (by rw [fs_pp]; exact hc2) h hq (by rw [fs_qmin]; exact h3) (by rw [fs_qmax]; exact h4)]
  exact fs_of hc1 hc2 h3 h4
theorem fs_r0 {B : Nat} {e : Int} : UInt32.ofNat (FP.Core.encode FP.Core.b32 (FP.Core.roundRatio FP.Core.b32 false 0 B e)) = 0 := by
  unfold FP.Core.roundRatio
  rw [if_pos rfl, fs_qmin]
  exact fs_e0
theorem fs_mul {x z : UInt32} {c d : Nat} {q r : Int} (hx : fs_n x c q) (hz : fs_n z d r) (h1 : (-149) ≤ q + r + 23) (h2 : q + r + 23 + 1 < 104) : ∃ (c' : Nat) (q' : Int), fs_n (FP.fmul x z) c' q' ∧ q + r + 23 ≤ q' ∧ q' ≤ q + r + 23 + 2 := by
  obtain ⟨x0, x1, x2, -, -⟩ := hx
  obtain ⟨z0, z1, z2, -, -⟩ := hz
  have hcd : 8388608 * 8388608 ≤ c * d := Nat.mul_le_mul x1 z1
  have hcd2 : c * d < 16777216 * 16777216 := Nat.mul_lt_mul'' x2 z2
  have e1 : FP.fmul x z = .ofNat (FP.Core.encode FP.Core.b32 (FP.Core.roundRatio FP.Core.b32 false (c * d) 1 (q + r))) := by
    show UInt32.ofNat (FP.Core.encode FP.Core.b32 (FP.Core.round FP.Core.b32 (FP.Core.exactProduct (FP.Core.decode FP.Core.b32 x.toNat) (FP.Core.decode FP.Core.b32 z.toNat)))) = _
    rw [x0, z0]
    rfl
  rw [e1]
  by_cases hh : c * d < 2 * (8388608 * 8388608)
  · obtain ⟨c', q', g1, g2, g3⟩ := fs_rd (A := c * d) (B := 1) (u := 23 + 23) (v := 0) (e := q + r) (q := q + r + 23) (by omega) (by decide) (by rw [Nat.pow_zero]; omega) (by rw [Nat.pow_zero]; omega) (by omega) h1 (by omega)
    exact ⟨c', q', g1, g2, by omega⟩
  · obtain ⟨c', q', g1, g2, g3⟩ := fs_rd (A := c * d) (B := 1) (u := 23 + 23 + 1) (v := 0) (e := q + r) (q := q + r + 23 + 1) (by omega) (by decide) (by rw [Nat.pow_zero]; omega) (by rw [Nat.pow_zero]; omega) (by omega) (by omega) h2
    exact ⟨c', q', g1, by omega, by omega⟩
theorem fs_div {x z : UInt32} {c d : Nat} {q r : Int} (hx : fs_n x c q) (hz : fs_n z d r) (h1 : (-149) ≤ q - r - 23 - 1) (h2 : q - r - 23 < 104) : ∃ (c' : Nat) (q' : Int), fs_n (FP.fdiv x z) c' q' ∧ q - r - 23 - 1 ≤ q' ∧ q' ≤ q - r - 23 + 1 := by
  obtain ⟨x0, x1, x2, -, -⟩ := hx
  obtain ⟨z0, z1, z2, -, -⟩ := hz
  have e1 : FP.fdiv x z = .ofNat (FP.Core.encode FP.Core.b32 (FP.Core.roundRatio FP.Core.b32 false c d (q - r))) := by
    show UInt32.ofNat (FP.Core.encode FP.Core.b32 (FP.Core.quotient FP.Core.b32 (FP.Core.decode FP.Core.b32 x.toNat) (FP.Core.decode FP.Core.b32 z.toNat))) = _
    rw [x0, z0]
    show UInt32.ofNat (FP.Core.encode FP.Core.b32 (if d = 0 then _ else _)) = _
    rw [if_neg (by omega)]
    rfl
  rw [e1]
  by_cases hh : d ≤ c
  · obtain ⟨c', q', g1, g2, g3⟩ := fs_rd (A := c) (B := d) (u := 0) (v := 0) (e := q - r) (q := q - r - 23) (by omega) (by omega) (by omega) (by omega) (by omega) (by omega) (by omega)
    exact ⟨c', q', g1, by omega, by omega⟩
  · obtain ⟨c', q', g1, g2, g3⟩ := fs_rd (A := c) (B := d) (u := 0) (v := 1) (e := q - r) (q := q - r - 23 - 1) (by omega) (by omega) (by omega) (by omega) (by omega) (by omega) (by omega)
    exact ⟨c', q', g1, by omega, by omega⟩
theorem fs_tt (t : Nat) : 8388608 * 2 ^ t = 2 ^ (23 + t) := by rw [Nat.pow_add]
theorem fs_add {x z : UInt32} {c d : Nat} {q r : Int} (hx : fs_n x c q) (hz : fs_n z d r) (hqr : r ≤ q) (h2 : q + 1 < 104) : ∃ (c' : Nat) (q' : Int), fs_n (FP.fadd x z) c' q' ∧ q ≤ q' ∧ q' ≤ q + 2 := by
  obtain ⟨x0, x1, x2, -, -⟩ := hx
  obtain ⟨z0, z1, z2, z3, -⟩ := hz
  obtain ⟨t, ht⟩ : ∃ t : Nat, (q - r).toNat = t := ⟨_, rfl⟩
  have e1 : FP.fadd x z = .ofNat (FP.Core.encode FP.Core.b32 (FP.Core.roundRatio FP.Core.b32 false (c * 2 ^ t + d) 1 r)) := by
    show UInt32.ofNat (FP.Core.encode FP.Core.b32 (FP.Core.round FP.Core.b32 (FP.Core.exactSum (FP.Core.decode FP.Core.b32 x.toNat) (FP.Core.decode FP.Core.b32 z.toNat)))) = _
    rw [x0, z0]
    have ev : FP.Core.sumUnits false c q false d r (min q r) = ((c * 2 ^ t + d : Nat) : Int) := by
      unfold FP.Core.sumUnits FP.Core.signed FP.Core.inUnits
      rw [Int.min_eq_right hqr, ht, show (r - r).toNat = 0 by omega]
      simp
    show UInt32.ofNat (FP.Core.encode FP.Core.b32 (FP.Core.round FP.Core.b32 (FP.Core.Datum.fin (FP.Core.sumSign false false (FP.Core.sumUnits false c q false d r (min q r))) (FP.Core.sumUnits false c q false d r (min q r)).natAbs (min q r)))) = _
    rw [ev, Int.min_eq_right hqr, show FP.Core.sumSign false false ((c * 2 ^ t + d : Nat) : Int) = false by unfold FP.Core.sumSign; split; rfl; exact decide_eq_false (Int.not_lt.mpr (Int.natCast_nonneg _))]
    rfl
  rw [e1]
  have hp1 : 1 ≤ 2 ^ t := Nat.one_le_two_pow
  have b1 : 8388608 * 2 ^ t ≤ c * 2 ^ t := Nat.mul_le_mul_right _ x1
  have b2 : c * 2 ^ t ≤ (16777216 - 1) * 2 ^ t := Nat.mul_le_mul_right _ (by omega)
  have b3 : d ≤ 16777216 * 2 ^ t - 1 := by
    have : 16777216 ≤ 16777216 * 2 ^ t := Nat.le_mul_of_pos_right _ (by omega)
    omega
  by_cases hh : c * 2 ^ t + d < 2 ^ (23 + t + 1)
  · obtain ⟨c', q', g1, g2, g3⟩ := fs_rd (A := c * 2 ^ t + d) (B := 1) (u := 23 + t) (v := 0) (e := r) (q := q) (by omega) (by decide) (by rw [Nat.pow_zero, ← fs_tt]; omega) (by rw [Nat.pow_zero]; omega) (by omega) (by omega) (by omega)
    exact ⟨c', q', g1, g2, by omega⟩
  · obtain ⟨c', q', g1, g2, g3⟩ := fs_rd (A := c * 2 ^ t + d) (B := 1) (u := 23 + t + 1) (v := 0) (e := r) (q := q + 1) (by omega) (by decide) (by rw [Nat.pow_zero]; omega) (by rw [Nat.pow_zero, Nat.pow_succ, Nat.pow_succ, ← fs_tt]; omega) (by omega) (by omega) h2
    exact ⟨c', q', g1, by omega, by omega⟩
theorem fs_add_comm (x z : UInt32) (h : ∃ c q d r, FP.Core.decode FP.Core.b32 x.toNat = .fin false c q ∧ FP.Core.decode FP.Core.b32 z.toNat = .fin false d r) : FP.fadd x z = FP.fadd z x := by
  obtain ⟨c, q, d, r, x0, z0⟩ := h
  show UInt32.ofNat (FP.Core.encode FP.Core.b32 (FP.Core.round FP.Core.b32 (FP.Core.exactSum (FP.Core.decode FP.Core.b32 x.toNat) (FP.Core.decode FP.Core.b32 z.toNat)))) = UInt32.ofNat (FP.Core.encode FP.Core.b32 (FP.Core.round FP.Core.b32 (FP.Core.exactSum (FP.Core.decode FP.Core.b32 z.toNat) (FP.Core.decode FP.Core.b32 x.toNat))))
  rw [x0, z0]
  show UInt32.ofNat (FP.Core.encode FP.Core.b32 (FP.Core.round FP.Core.b32 (FP.Core.Datum.fin (FP.Core.sumSign false false (FP.Core.sumUnits false c q false d r (min q r))) (FP.Core.sumUnits false c q false d r (min q r)).natAbs (min q r)))) = UInt32.ofNat (FP.Core.encode FP.Core.b32 (FP.Core.round FP.Core.b32 (FP.Core.Datum.fin (FP.Core.sumSign false false (FP.Core.sumUnits false d r false c q (min r q))) (FP.Core.sumUnits false d r false c q (min r q)).natAbs (min r q))))
  rw [Int.min_comm r q, show FP.Core.sumUnits false d r false c q (min q r) = FP.Core.sumUnits false c q false d r (min q r) from Int.add_comm _ _]
/-- nothing and something -/
theorem fs_add0 {z : UInt32} {d : Nat} {r : Int} (hz : fs_n z d r) : FP.fadd 0 z = z := by
  have hz' := hz
  obtain ⟨z0, z1, z2, z3, z4⟩ := hz
  have e1 : FP.fadd 0 z = .ofNat (FP.Core.encode FP.Core.b32 (FP.Core.roundRatio FP.Core.b32 false (d * 2 ^ (r - (-149)).toNat) 1 (-149))) := by
    show UInt32.ofNat (FP.Core.encode FP.Core.b32 (FP.Core.round FP.Core.b32 (FP.Core.exactSum (FP.Core.decode FP.Core.b32 (0 : UInt32).toNat) (FP.Core.decode FP.Core.b32 z.toNat)))) = _
    rw [z0, fs_zero]
    have ev : FP.Core.sumUnits false 0 (-149) false d r (min (-149) r) = ((d * 2 ^ (r - (-149)).toNat : Nat) : Int) := by
      unfold FP.Core.sumUnits FP.Core.signed FP.Core.inUnits
      rw [Int.min_eq_left z3]
      simp
    show UInt32.ofNat (FP.Core.encode FP.Core.b32 (FP.Core.round FP.Core.b32 (FP.Core.Datum.fin (FP.Core.sumSign false false (FP.Core.sumUnits false 0 (-149) false d r (min (-149) r))) (FP.Core.sumUnits false 0 (-149) false d r (min (-149) r)).natAbs (min (-149) r)))) = _
    rw [ev, Int.min_eq_left z3, show FP.Core.sumSign false false ((d * 2 ^ (r - (-149)).toNat : Nat) : Int) = false by unfold FP.Core.sumSign; split; rfl; exact decide_eq_false (Int.not_lt.mpr (Int.natCast_nonneg _))]
    rfl
  rw [e1]
  exact fs_eq (fs_ex (x := 0) (y := (r - (-149)).toNat) (by decide) z1 z2 (by rw [Nat.pow_zero, Nat.mul_one, Nat.mul_one]) (by omega) z3 z4) hz'
theorem fs_00 : FP.fadd 0 0 = 0 := by decide +kernel
theorem fs_m0 {z : UInt32} {d : Nat} {r : Int} (hz : fs_n z d r) : FP.fmul 0 z = 0 ∧ FP.fmul z 0 = 0 ∧ FP.fdiv 0 z = 0 ∧ FP.fadd z 0 = z := by
  have h0 := fs_add_comm z 0 ⟨_, _, _, _, hz.1, fs_zero⟩
  rw [fs_add0 hz] at h0
  obtain ⟨z0, z1, z2, z3, z4⟩ := hz
  refine ⟨?_, ?_, ?_, h0⟩
  · show UInt32.ofNat (FP.Core.encode FP.Core.b32 (FP.Core.round FP.Core.b32 (FP.Core.exactProduct (FP.Core.decode FP.Core.b32 (0 : UInt32).toNat) (FP.Core.decode FP.Core.b32 z.toNat)))) = _
    rw [z0, fs_zero]
    show UInt32.ofNat (FP.Core.encode FP.Core.b32 (FP.Core.roundRatio FP.Core.b32 false (0 * d) 1 _)) = _
    rw [Nat.zero_mul]
    exact fs_r0
  · show UInt32.ofNat (FP.Core.encode FP.Core.b32 (FP.Core.round FP.Core.b32 (FP.Core.exactProduct (FP.Core.decode FP.Core.b32 z.toNat) (FP.Core.decode FP.Core.b32 (0 : UInt32).toNat)))) = _
    rw [z0, fs_zero]
    show UInt32.ofNat (FP.Core.encode FP.Core.b32 (FP.Core.roundRatio FP.Core.b32 false (d * 0) 1 _)) = _
    rw [Nat.mul_zero]
    exact fs_r0
  · show UInt32.ofNat (FP.Core.encode FP.Core.b32 (FP.Core.quotient FP.Core.b32 (FP.Core.decode FP.Core.b32 (0 : UInt32).toNat) (FP.Core.decode FP.Core.b32 z.toNat))) = _
    rw [z0, fs_zero]
    show UInt32.ofNat (FP.Core.encode FP.Core.b32 (if d = 0 then _ else _)) = _
    rw [if_neg (by omega)]
    exact fs_r0
theorem fs_mm : FP.fmul 0 0 = 0 := by decide +kernel
/-- a whole number from 0 on -/
theorem fs_i {n : Nat} (hn : 0 < n) (h : n < 2 ^ 31) : ∃ (c : Nat) (q : Int), fs_n (FP.i2f (nI n)) c q ∧ -23 ≤ q ∧ q ≤ 32 - 23 := by
  have e1 : FP.i2f (nI n) = .ofNat (FP.Core.encode FP.Core.b32 (FP.Core.roundRatio FP.Core.b32 false n 1 0)) := by
    show UInt32.ofNat (FP.Core.encode FP.Core.b32 (FP.Core.round FP.Core.b32 (FP.Core.ofInt (nI n).toInt))) = _
    rw [nI_toInt (by omega)]
    unfold FP.Core.ofInt
    rw [show decide (((n : Nat) : Int) < 0) = false by simp, Int.natAbs_natCast]
    rfl
  rw [e1]
  have l1 : 2 ^ n.log2 ≤ n := Nat.log2_self_le (by omega)
  have l2 : n < 2 ^ (n.log2 + 1) := Nat.lt_log2_self
  have l3 : n.log2 < 31 := (Nat.pow_lt_pow_iff_right (a := 2) (by decide)).mp (Nat.lt_of_le_of_lt l1 h)
  obtain ⟨c, q, g1, g2, g3⟩ := fs_rd (A := n) (B := 1) (u := n.log2) (v := 0) (e := 0) (q := (n.log2 : Int) - 23) hn (by decide) (by rw [Nat.pow_zero]; omega) (by rw [Nat.pow_zero]; omega) (by omega) (by omega) (by omega)
  exact ⟨c, q, g1, by omega, by omega⟩
theorem fs_i0 : FP.i2f (nI 0) = 0 := by decide +kernel
theorem fs_ik {n : Nat} (h : n < 2 ^ 31) : fs_k (-23) (32 - 23) (FP.i2f (nI n)) := by
  rcases Nat.eq_zero_or_pos n with rfl | hn
  · exact Or.inl fs_i0
  · obtain ⟨c, q, g1, g2, g3⟩ := fs_i hn h
    exact g1.k g2 g3
/-! with their ranges -/
theorem fs_k.mul {x z : UInt32} {l1 h1 l2 h2 : Int} (hx : fs_k l1 h1 x) (hz : fs_k l2 h2 z) (g1 : (-149) ≤ l1 + l2 + 23) (g2 : h1 + h2 + 23 + 1 < 104) : fs_k (l1 + l2 + 23) (h1 + h2 + 23 + 2) (FP.fmul x z) := by
  rcases hx with rfl | ⟨c, q, hx, x1, x2⟩
  · rcases hz with rfl | ⟨d, r, hz, z1, z2⟩
    · exact Or.inl fs_mm
    · exact Or.inl (fs_m0 hz).1
  · rcases hz with rfl | ⟨d, r, hz, z1, z2⟩
    · exact Or.inl (fs_m0 hx).2.1
    · obtain ⟨c', q', i1, i2, i3⟩ := fs_mul hx hz (by omega) (by omega)
      exact i1.k (by omega) (by omega)
theorem fs_k.div {x z : UInt32} {l1 h1 l2 h2 : Int} (hx : fs_k l1 h1 x) (hz : ∃ d r, fs_n z d r ∧ l2 ≤ r ∧ r ≤ h2) (g1 : (-149) ≤ l1 - h2 - 23 - 1) (g2 : h1 - l2 - 23 < 104) : fs_k (l1 - h2 - 23 - 1) (h1 - l2 - 23 + 1) (FP.fdiv x z) := by
  obtain ⟨d, r, hz, z1, z2⟩ := hz
  rcases hx with rfl | ⟨c, q, hx, x1, x2⟩
  · exact Or.inl (fs_m0 hz).2.2.1
  · obtain ⟨c', q', i1, i2, i3⟩ := fs_div hx hz (by omega) (by omega)
    exact i1.k (by omega) (by omega)
theorem fs_k.add {x z : UInt32} {l1 h1 l2 h2 : Int} (hx : fs_k l1 h1 x) (hz : fs_k l2 h2 z) (gg : l1 ≤ l2) (g2 : h1 + 1 < 104) (g3 : h2 ≤ h1) : fs_k l1 (h1 + 2) (FP.fadd x z) := by
  rcases hx with rfl | ⟨c, q, hx, x1, x2⟩
  · rcases hz with rfl | ⟨d, r, hz, z1, z2⟩
    · exact Or.inl fs_00
    · rw [fs_add0 hz]; exact hz.k (by omega) (by omega)
  · rcases hz with rfl | ⟨d, r, hz, z1, z2⟩
    · rw [(fs_m0 hx).2.2.2]; exact hx.k (by omega) (by omega)
    · rcases Int.le_total r q with hh | hh
      · obtain ⟨c', q', i1, i2, i3⟩ := fs_add hx hz hh (by omega)
        exact i1.k (by omega) (by omega)
      · obtain ⟨c', q', i1, i2, i3⟩ := fs_add hz hx hh (by omega)
        rw [fs_add_comm x z ⟨_, _, _, _, hx.1, hz.1⟩]
        exact i1.k (by omega) (by omega)
/-! compared -/
/-- what it is worth, as a whole number of least parts -/
def fs_v (x : UInt32) : Nat := match FP.Core.decode FP.Core.b32 x.toNat with | .fin _ c q => c * 2 ^ (q + 149).toNat | _ => 0
theorem fs_v0 : fs_v 0 = 0 := by unfold fs_v; rw [fs_zero]; exact Nat.zero_mul _
theorem fs_vn {x : UInt32} {c : Nat} {q : Int} (h : fs_n x c q) : fs_v x = c * 2 ^ (q + 149).toNat := by unfold fs_v; rw [h.1]
theorem fs_dk {lo hi : Int} {x : UInt32} (h : fs_k lo hi x) : ∃ c q, FP.Core.decode FP.Core.b32 x.toNat = .fin false c q ∧ (-149) ≤ q := by
  rcases h with rfl | ⟨c, q, h, -, -⟩
  · exact ⟨0, _, fs_zero, Int.le_refl _⟩
  · exact ⟨c, q, h.1, h.2.2.2.1⟩
theorem fs_cmp {x z : UInt32} (hx : ∃ c q, FP.Core.decode FP.Core.b32 x.toNat = .fin false c q ∧ (-149) ≤ q) (hz : ∃ c q, FP.Core.decode FP.Core.b32 z.toNat = .fin false c q ∧ (-149) ≤ q) : FP.fcmp x z = some (compare (fs_v x : Int) (fs_v z : Int)) := by
  obtain ⟨c, q, x0, x3⟩ := hx
  obtain ⟨d, r, z0, z3⟩ := hz
  show FP.Core.order (FP.Core.decode FP.Core.b32 x.toNat) (FP.Core.decode FP.Core.b32 z.toNat) = _
  unfold fs_v
  rw [x0, z0]
  show some (compare (FP.Core.signed false (FP.Core.inUnits c q (min q r))) (FP.Core.signed false (FP.Core.inUnits d r (min q r)))) = some (compare ((c * 2 ^ (q + 149).toNat : Nat) : Int) ((d * 2 ^ (r + 149).toNat : Nat) : Int))
  congr 1
  unfold FP.Core.signed FP.Core.inUnits
  rw [if_neg (by decide), if_neg (by decide)]
  obtain ⟨k, hk⟩ : ∃ k : Nat, min q r + 149 = k := ⟨(min q r + 149).toNat, by omega⟩
  rw [show (q + 149).toNat = (q - min q r).toNat + k by omega, show (r + 149).toNat = (r - min q r).toNat + k by omega, Nat.pow_add, Nat.pow_add, ← Nat.mul_assoc, ← Nat.mul_assoc]
  generalize c * 2 ^ (q - min q r).toNat = M
  generalize d * 2 ^ (r - min q r).toNat = N
  have hp : 0 < 2 ^ k := Nat.two_pow_pos k
  rcases Nat.lt_trichotomy M N with h | h | h
  · have h' := Nat.mul_lt_mul_of_pos_right h hp
    rw [fl_clt (by omega), fl_clt (by omega)]
  · subst h
    rw [fl_ceq (rfl), fl_ceq rfl]
  · have h' := Nat.mul_lt_mul_of_pos_right h hp
    rw [fl_cgt (by omega), fl_cgt (by omega)]
