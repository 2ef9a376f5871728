/-! doubles that are not below 0: +0, or c * 2^q -/
def fd_n (x : UInt64) (c : Nat) (q : Int) : Prop := FP.Core.decode FP.Core.b64 x.toNat = .fin false c q ∧ 4503599627370496 ≤ c ∧ c < 9007199254740992 ∧ (-1074) ≤ q ∧ q ≤ 971
theorem fd_qmin : FP.Core.b64.qmin = (-1074) := by decide
theorem fd_qmax : FP.Core.b64.qmax = 971 := by decide
theorem fd_tails : FP.Core.b64.tails = 4503599627370496 := by decide +kernel
theorem fd_exps : FP.Core.b64.exps = 2048 := by decide
theorem fd_pp : (2 : Nat) ^ FP.Core.b64.p = 9007199254740992 := by decide +kernel
theorem fd_p : FP.Core.b64.p = 53 := rfl
theorem fd_enc {c : Nat} {q : Int} (h1 : 4503599627370496 ≤ c) (h2 : c < 9007199254740992) (h3 : (-1074) ≤ q) (h4 : q ≤ 971) : FP.Core.encode FP.Core.b64 (.fin false c q) = (q + 1075).toNat * 4503599627370496 + (c - 4503599627370496) := by
  unfold FP.Core.encode FP.Core.assemble
  rw [fd_tails, fd_exps, fd_qmin]
  show (if c < 4503599627370496 then _ else ((false.toNat * 2048 + ((q - (-1074)).toNat + 1)) * 4503599627370496 + (c - 4503599627370496))) = _
  rw [if_neg (by omega), show false.toNat * 2048 + ((q - (-1074)).toNat + 1) = (q + 1075).toNat by rw [show false.toNat = 0 from rfl]; omega]
theorem fd_of {c : Nat} {q : Int} (h1 : 4503599627370496 ≤ c) (h2 : c < 9007199254740992) (h3 : (-1074) ≤ q) (h4 : q ≤ 971) : fd_n (.ofNat (FP.Core.encode FP.Core.b64 (.fin false c q))) c q := by
  refine ⟨?_, h1, h2, h3, h4⟩
  rw [fd_enc h1 h2 h3 h4]
  obtain ⟨E, hE⟩ : ∃ E : Nat, (q + 1075).toNat = E := ⟨_, rfl⟩
  obtain ⟨T, hT⟩ : ∃ T : Nat, c - 4503599627370496 = T := ⟨_, rfl⟩
  rw [hE, hT]
  have e1 : (UInt64.ofNat (E * 4503599627370496 + T)).toNat = E * 4503599627370496 + T := by
    rw [UInt64.toNat_ofNat']
    omega
  rw [e1]
  unfold FP.Core.decode FP.Core.fieldE FP.Core.fieldT FP.Core.fieldS
  rw [fd_tails, fd_exps, fd_qmin]
  rw [show (E * 4503599627370496 + T) / 4503599627370496 % 2048 = E by omega, show (E * 4503599627370496 + T) % 4503599627370496 = T by omega, show (E * 4503599627370496 + T) / 4503599627370496 / 2048 % 2 = 0 by omega]
  rw [if_neg (by omega), if_neg (by omega)]
  show FP.Core.Datum.fin false _ _ = _
  rw [show 4503599627370496 + T = c by omega, show ((-1074) + ((E : Int) - 1) : Int) = q by omega]
theorem fd_bits {x : UInt64} {c : Nat} {q : Int} (h : fd_n x c q) : x.toNat = (q + 1075).toNat * 4503599627370496 + (c - 4503599627370496) := by
  obtain ⟨h0, h1, h2, h3, h4⟩ := h
  have hx : x.toNat < 18446744073709551616 := x.toNat_lt
  unfold FP.Core.decode FP.Core.fieldE FP.Core.fieldT FP.Core.fieldS at h0
  rw [fd_tails, fd_exps, fd_qmin] at h0
  split at h0
  · split at h0
    · cases h0
    · cases h0
  split at h0
  · injection h0 with i1 i2 i3
    omega
  · injection h0 with i1 i2 i3
    have i4 : ¬ x.toNat / 4503599627370496 / 2048 % 2 = 1 := fun q => by rw [q] at i1; cases i1
    omega
theorem fd_eq {x z : UInt64} {c : Nat} {q : Int} (h : fd_n x c q) (g : fd_n z c q) : x = z := UInt64.toNat_inj.mp ((fd_bits h).trans (fd_bits g).symm)
/-- +0, or lo ≤ q ≤ hi -/
def fd_k (lo hi : Int) (x : UInt64) : Prop := x = 0 ∨ ∃ (c : Nat) (q : Int), fd_n x c q ∧ lo ≤ q ∧ q ≤ hi
theorem fd_n.k {x : UInt64} {c : Nat} {q lo hi : Int} (h : fd_n x c q) (h1 : lo ≤ q) (h2 : q ≤ hi) : fd_k lo hi x := Or.inr ⟨c, q, h, h1, h2⟩
theorem fd_k.wd {lo hi lo' hi' : Int} {x : UInt64} (h : fd_k lo hi x) (h1 : lo' ≤ lo) (h2 : hi ≤ hi') : fd_k lo' hi' x := by
  rcases h with h | ⟨c, q, h, g1, g2⟩
  · exact Or.inl h
  · exact Or.inr ⟨c, q, h, by omega, by omega⟩
theorem fd_n.nn {x : UInt64} {c : Nat} {q : Int} (h : fd_n x c q) : vf_n64 x := by
  have h0 := fd_bits h
  obtain ⟨-, h1, h2, h3, h4⟩ := h
  unfold vf_n64
  rw [UInt64.le_iff_toNat_le, UInt64.toNat_and]
  refine Nat.le_trans Nat.and_le_left ?_
  show x.toNat ≤ 9218868437227405312
  omega
theorem fd_k.nn {lo hi : Int} {x : UInt64} (h : fd_k lo hi x) : vf_n64 x := by
  rcases h with rfl | ⟨c, q, h, -, -⟩
  · unfold vf_n64; decide
  · exact h.nn
theorem fd_zero : FP.Core.decode FP.Core.b64 (0 : UInt64).toNat = .fin false 0 (-1074) := by decide +kernel
theorem fd_e0 : UInt64.ofNat (FP.Core.encode FP.Core.b64 (.fin false 0 (-1074))) = 0 := by decide +kernel
/-- c * 2^q, rounded -/
theorem fd_rd {A B u v : Nat} {e q : Int} (hA : 0 < A) (hB : 0 < B) (h1 : B * 2 ^ u ≤ A * 2 ^ v) (h2 : A * 2 ^ v < B * 2 ^ (u + 1)) (hq : q = (u : Int) - v + e - 52) (h3 : (-1074) ≤ q) (h4 : q < 971) : ∃ (c : Nat) (q' : Int), fd_n (.ofNat (FP.Core.encode FP.Core.b64 (FP.Core.roundRatio FP.Core.b64 false A B e))) c q' ∧ q ≤ q' ∧ q' ≤ q + 1 := by
  obtain ⟨c, q', g1, g2, g3, g4, g5⟩ := fl_rr (f := FP.Core.b64) (q := q) (e := e) (by decide) hA hB h1 h2 (by rw [fd_p]; omega) (by rw [fd_qmin]; exact h3) (by rw [fd_qmax]; exact h4)
  rw [fd_tails] at g2
  rw [fd_pp] at g3
  rw [g1]
  exact ⟨c, q', fd_of g2 g3 (by omega) (by omega), g4, g5⟩
theorem fd_ex {A B c x y : Nat} {e q : Int} (hB : 0 < B) (hc1 : 4503599627370496 ≤ c) (hc2 : c < 9007199254740992) (h : A * 2 ^ x = c * B * 2 ^ y) (hq : q - e = (y : Int) - x) (h3 : (-1074) ≤ q) (h4 : q ≤ 971) : fd_n (.ofNat (FP.Core.encode FP.Core.b64 (FP.Core.roundRatio FP.Core.b64 false A B e))) c q := by
  rw [fl_re (f := FP.Core.b64) (by decide) hB (by rw [fd_tails]; exact hc1) (by rw [fd_pp]; exact hc2) h hq (by rw [fd_qmin]; exact h3) (by rw [fd_qmax]; exact h4)]
  exact fd_of hc1 hc2 h3 h4
theorem fd_r0 {B : Nat} {e : Int} : UInt64.ofNat (FP.Core.encode FP.Core.b64 (FP.Core.roundRatio FP.Core.b64 false 0 B e)) = 0 := by
  unfold FP.Core.roundRatio
  rw [if_pos rfl, fd_qmin]
  exact fd_e0
theorem fd_mul {x z : UInt64} {c d : Nat} {q r : Int} (hx : fd_n x c q) (hz : fd_n z d r) (h1 : (-1074) ≤ q + r + 52) (h2 : q + r + 52 + 1 < 971) : ∃ (c' : Nat) (q' : Int), fd_n (FP.dmul x z) c' q' ∧ q + r + 52 ≤ q' ∧ q' ≤ q + r + 52 + 2 := by
  obtain ⟨x0, x1, x2, -, -⟩ := hx
  obtain ⟨z0, z1, z2, -, -⟩ := hz
  have hcd : 4503599627370496 * 4503599627370496 ≤ c * d := Nat.mul_le_mul x1 z1
  have hcd2 : c * d < 9007199254740992 * 9007199254740992 := Nat.mul_lt_mul'' x2 z2
  have e1 : FP.dmul x z = .ofNat (FP.Core.encode FP.Core.b64 (FP.Core.roundRatio FP.Core.b64 false (c * d) 1 (q + r))) := by
    show UInt64.ofNat (FP.Core.encode FP.Core.b64 (FP.Core.round FP.Core.b64 (FP.Core.exactProduct (FP.Core.decode FP.Core.b64 x.toNat) (FP.Core.decode FP.Core.b64 z.toNat)))) = _
    rw [x0, z0]
    rfl
  rw [e1]
  by_cases hh : c * d < 2 * (4503599627370496 * 4503599627370496)
  · obtain ⟨c', q', g1, g2, g3⟩ := fd_rd (A := c * d) (B := 1) (u := 52 + 52) (v := 0) (e := q + r) (q := q + r + 52) (by omega) (by decide) (by rw [Nat.pow_zero]; omega) (by rw [Nat.pow_zero]; omega) (by omega) h1 (by omega)
    exact ⟨c', q', g1, g2, by omega⟩
  · obtain ⟨c', q', g1, g2, g3⟩ := fd_rd (A := c * d) (B := 1) (u := 52 + 52 + 1) (v := 0) (e := q + r) (q := q + r + 52 + 1) (by omega) (by decide) (by rw [Nat.pow_zero]; omega) (by rw [Nat.pow_zero]; omega) (by omega) (by omega) h2
    exact ⟨c', q', g1, by omega, by omega⟩
theorem fd_div {x z : UInt64} {c d : Nat} {q r : Int} (hx : fd_n x c q) (hz : fd_n z d r) (h1 : (-1074) ≤ q - r - 52 - 1) (h2 : q - r - 52 < 971) : ∃ (c' : Nat) (q' : Int), fd_n (FP.ddiv x z) c' q' ∧ q - r - 52 - 1 ≤ q' ∧ q' ≤ q - r - 52 + 1 := by
  obtain ⟨x0, x1, x2, -, -⟩ := hx
  obtain ⟨z0, z1, z2, -, -⟩ := hz
  have e1 : FP.ddiv x z = .ofNat (FP.Core.encode FP.Core.b64 (FP.Core.roundRatio FP.Core.b64 false c d (q - r))) := by
    show UInt64.ofNat (FP.Core.encode FP.Core.b64 (FP.Core.quotient FP.Core.b64 (FP.Core.decode FP.Core.b64 x.toNat) (FP.Core.decode FP.Core.b64 z.toNat))) = _
    rw [x0, z0]
    show UInt64.ofNat (FP.Core.encode FP.Core.b64 (if d = 0 then _ else _)) = _
    rw [if_neg (by omega)]
    rfl
  rw [e1]
  by_cases hh : d ≤ c
  · obtain ⟨c', q', g1, g2, g3⟩ := fd_rd (A := c) (B := d) (u := 0) (v := 0) (e := q - r) (q := q - r - 52) (by omega) (by omega) (by omega) (by omega) (by omega) (by omega) (by omega)
    exact ⟨c', q', g1, by omega, by omega⟩
  · obtain ⟨c', q', g1, g2, g3⟩ := fd_rd (A := c) (B := d) (u := 0) (v := 1) (e := q - r) (q := q - r - 52 - 1) (by omega) (by omega) (by omega) (by omega) (by omega) (by omega) (by omega)
    exact ⟨c', q', g1, by omega, by omega⟩
theorem fd_tt (t : Nat) : 4503599627370496 * 2 ^ t = 2 ^ (52 + t) := by rw [Nat.pow_add]
theorem fd_add {x z : UInt64} {c d : Nat} {q r : Int} (hx : fd_n x c q) (hz : fd_n z d r) (hqr : r ≤ q) (h2 : q + 1 < 971) : ∃ (c' : Nat) (q' : Int), fd_n (FP.dadd x z) c' q' ∧ q ≤ q' ∧ q' ≤ q + 2 := by
  obtain ⟨x0, x1, x2, -, -⟩ := hx
  obtain ⟨z0, z1, z2, z3, -⟩ := hz
  obtain ⟨t, ht⟩ : ∃ t : Nat, (q - r).toNat = t := ⟨_, rfl⟩
  have e1 : FP.dadd x z = .ofNat (FP.Core.encode FP.Core.b64 (FP.Core.roundRatio FP.Core.b64 false (c * 2 ^ t + d) 1 r)) := by
    show UInt64.ofNat (FP.Core.encode FP.Core.b64 (FP.Core.round FP.Core.b64 (FP.Core.exactSum (FP.Core.decode FP.Core.b64 x.toNat) (FP.Core.decode FP.Core.b64 z.toNat)))) = _
    rw [x0, z0]
    have ev : FP.Core.sumUnits false c q false d r (min q r) = ((c * 2 ^ t + d : Nat) : Int) := by
      unfold FP.Core.sumUnits FP.Core.signed FP.Core.inUnits
      rw [Int.min_eq_right hqr, ht, show (r - r).toNat = 0 by omega]
      simp
    show UInt64.ofNat (FP.Core.encode FP.Core.b64 (FP.Core.round FP.Core.b64 (FP.Core.Datum.fin (FP.Core.sumSign false false (FP.Core.sumUnits false c q false d r (min q r))) (FP.Core.sumUnits false c q false d r (min q r)).natAbs (min q r)))) = _
    rw [ev, Int.min_eq_right hqr, show FP.Core.sumSign false false ((c * 2 ^ t + d : Nat) : Int) = false by unfold FP.Core.sumSign; split; rfl; exact decide_eq_false (Int.not_lt.mpr (Int.natCast_nonneg _))]
    rfl
  rw [e1]
  have hp1 : 1 ≤ 2 ^ t := Nat.one_le_two_pow
  have b1 : 4503599627370496 * 2 ^ t ≤ c * 2 ^ t := Nat.mul_le_mul_right _ x1
  have b2 : c * 2 ^ t ≤ (9007199254740992 - 1) * 2 ^ t := Nat.mul_le_mul_right _ (by omega)
  have b3 : d ≤ 9007199254740992 * 2 ^ t - 1 := by
    have : 9007199254740992 ≤ 9007199254740992 * 2 ^ t := Nat.le_mul_of_pos_right _ (by omega)
    omega
  by_cases hh : c * 2 ^ t + d < 2 ^ (52 + t + 1)
  · obtain ⟨c', q', g1, g2, g3⟩ := fd_rd (A := c * 2 ^ t + d) (B := 1) (u := 52 + t) (v := 0) (e := r) (q := q) (by omega) (by decide) (by rw [Nat.pow_zero, ← fd_tt]; omega) (by rw [Nat.pow_zero]; omega) (by omega) (by omega) (by omega)
    exact ⟨c', q', g1, g2, by omega⟩
  · obtain ⟨c', q', g1, g2, g3⟩ := fd_rd (A := c * 2 ^ t + d) (B := 1) (u := 52 + t + 1) (v := 0) (e := r) (q := q + 1) (by omega) (by decide) (by rw [Nat.pow_zero]; omega) (by rw [Nat.pow_zero, Nat.pow_succ, Nat.pow_succ, ← fd_tt]; omega) (by omega) (by omega) h2
    exact ⟨c', q', g1, by omega, by omega⟩
theorem fd_add_comm (x z : UInt64) (h : ∃ c q d r, FP.Core.decode FP.Core.b64 x.toNat = .fin false c q ∧ FP.Core.decode FP.Core.b64 z.toNat = .fin false d r) : FP.dadd x z = FP.dadd z x := by
  obtain ⟨c, q, d, r, x0, z0⟩ := h
  show UInt64.ofNat (FP.Core.encode FP.Core.b64 (FP.Core.round FP.Core.b64 (FP.Core.exactSum (FP.Core.decode FP.Core.b64 x.toNat) (FP.Core.decode FP.Core.b64 z.toNat)))) = UInt64.ofNat (FP.Core.encode FP.Core.b64 (FP.Core.round FP.Core.b64 (FP.Core.exactSum (FP.Core.decode FP.Core.b64 z.toNat) (FP.Core.decode FP.Core.b64 x.toNat))))
  rw [x0, z0]
  show UInt64.ofNat (FP.Core.encode FP.Core.b64 (FP.Core.round FP.Core.b64 (FP.Core.Datum.fin (FP.Core.sumSign false false (FP.Core.sumUnits false c q false d r (min q r))) (FP.Core.sumUnits false c q false d r (min q r)).natAbs (min q r)))) = UInt64.ofNat (FP.Core.encode FP.Core.b64 (FP.Core.round FP.Core.b64 (FP.Core.Datum.fin (FP.Core.sumSign false false (FP.Core.sumUnits false d r false c q (min r q))) (FP.Core.sumUnits false d r false c q (min r q)).natAbs (min r q))))
  rw [Int.min_comm r q, show FP.Core.sumUnits false d r false c q (min q r) = FP.Core.sumUnits false c q false d r (min q r) from Int.add_comm _ _]
/-- nothing and something -/
theorem fd_add0 {z : UInt64} {d : Nat} {r : Int} (hz : fd_n z d r) : FP.dadd 0 z = z := by
  have hz' := hz
  obtain ⟨z0, z1, z2, z3, z4⟩ := hz
  have e1 : FP.dadd 0 z = .ofNat (FP.Core.encode FP.Core.b64 (FP.Core.roundRatio FP.Core.b64 false (d * 2 ^ (r - (-1074)).toNat) 1 (-1074))) := by
    show UInt64.ofNat (FP.Core.encode FP.Core.b64 (FP.Core.round FP.Core.b64 (FP.Core.exactSum (FP.Core.decode FP.Core.b64 (0 : UInt64).toNat) (FP.Core.decode FP.Core.b64 z.toNat)))) = _
    rw [z0, fd_zero]
    have ev : FP.Core.sumUnits false 0 (-1074) false d r (min (-1074) r) = ((d * 2 ^ (r - (-1074)).toNat : Nat) : Int) := by
      unfold FP.Core.sumUnits FP.Core.signed FP.Core.inUnits
      rw [Int.min_eq_left z3]
      simp
    show UInt64.ofNat (FP.Core.encode FP.Core.b64 (FP.Core.round FP.Core.b64 (FP.Core.Datum.fin (FP.Core.sumSign false false (FP.Core.sumUnits false 0 (-1074) false d r (min (-1074) r))) (FP.Core.sumUnits false 0 (-1074) false d r (min (-1074) r)).natAbs (min (-1074) r)))) = _
    rw [ev, Int.min_eq_left z3, show FP.Core.sumSign false false ((d * 2 ^ (r - (-1074)).toNat : Nat) : Int) = false by unfold FP.Core.sumSign; split; rfl; exact decide_eq_false (Int.not_lt.mpr (Int.natCast_nonneg _))]
    rfl
  rw [e1]
  exact fd_eq (fd_ex (x := 0) (y := (r - (-1074)).toNat) (by decide) z1 z2 (by rw [Nat.pow_zero, Nat.mul_one, Nat.mul_one]) (by omega) z3 z4) hz'
theorem fd_00 : FP.dadd 0 0 = 0 := by decide +kernel
theorem fd_m0 {z : UInt64} {d : Nat} {r : Int} (hz : fd_n z d r) : FP.dmul 0 z = 0 ∧ FP.dmul z 0 = 0 ∧ FP.ddiv 0 z = 0 ∧ FP.dadd z 0 = z := by
  have h0 := fd_add_comm z 0 ⟨_, _, _, _, hz.1, fd_zero⟩
  rw [fd_add0 hz] at h0
  obtain ⟨z0, z1, z2, z3, z4⟩ := hz
  refine ⟨?_, ?_, ?_, h0⟩
  · show UInt64.ofNat (FP.Core.encode FP.Core.b64 (FP.Core.round FP.Core.b64 (FP.Core.exactProduct (FP.Core.decode FP.Core.b64 (0 : UInt64).toNat) (FP.Core.decode FP.Core.b64 z.toNat)))) = _
    rw [z0, fd_zero]
    show UInt64.ofNat (FP.Core.encode FP.Core.b64 (FP.Core.roundRatio FP.Core.b64 false (0 * d) 1 _)) = _
    rw [Nat.zero_mul]
    exact fd_r0
  · show UInt64.ofNat (FP.Core.encode FP.Core.b64 (FP.Core.round FP.Core.b64 (FP.Core.exactProduct (FP.Core.decode FP.Core.b64 z.toNat) (FP.Core.decode FP.Core.b64 (0 : UInt64).toNat)))) = _
    rw [z0, fd_zero]
    show UInt64.ofNat (FP.Core.encode FP.Core.b64 (FP.Core.roundRatio FP.Core.b64 false (d * 0) 1 _)) = _
    rw [Nat.mul_zero]
    exact fd_r0
  · show UInt64.ofNat (FP.Core.encode FP.Core.b64 (FP.Core.quotient FP.Core.b64 (FP.Core.decode FP.Core.b64 (0 : UInt64).toNat) (FP.Core.decode FP.Core.b64 z.toNat))) = _
    rw [z0, fd_zero]
    show UInt64.ofNat (FP.Core.encode FP.Core.b64 (if d = 0 then _ else _)) = _
    rw [if_neg (by omega)]
    exact fd_r0
theorem fd_mm : FP.dmul 0 0 = 0 := by decide +kernel
/-- a whole number from 0 on -/
theorem fd_i {n : Nat} (hn : 0 < n) (h : n < 2 ^ 31) : ∃ (c : Nat) (q : Int), fd_n (FP.i2d (nI n)) c q ∧ -52 ≤ q ∧ q ≤ 32 - 52 := by
  have e1 : FP.i2d (nI n) = .ofNat (FP.Core.encode FP.Core.b64 (FP.Core.roundRatio FP.Core.b64 false n 1 0)) := by
    show UInt64.ofNat (FP.Core.encode FP.Core.b64 (FP.Core.round FP.Core.b64 (FP.Core.ofInt (nI n).toInt))) = _
    rw [nI_toInt (by omega)]
    unfold FP.Core.ofInt
    rw [show decide (((n : Nat) : Int) < 0) = false by simp, Int.natAbs_natCast]
    rfl
  rw [e1]
  have l1 : 2 ^ n.log2 ≤ n := Nat.log2_self_le (by omega)
  have l2 : n < 2 ^ (n.log2 + 1) := Nat.lt_log2_self
  have l3 : n.log2 < 31 := (Nat.pow_lt_pow_iff_right (a := 2) (by decide)).mp (Nat.lt_of_le_of_lt l1 h)
  obtain ⟨c, q, g1, g2, g3⟩ := fd_rd (A := n) (B := 1) (u := n.log2) (v := 0) (e := 0) (q := (n.log2 : Int) - 52) hn (by decide) (by rw [Nat.pow_zero]; omega) (by rw [Nat.pow_zero]; omega) (by omega) (by omega) (by omega)
  exact ⟨c, q, g1, by omega, by omega⟩
theorem fd_i0 : FP.i2d (nI 0) = 0 := by decide +kernel
theorem fd_ik {n : Nat} (h : n < 2 ^ 31) : fd_k (-52) (32 - 52) (FP.i2d (nI n)) := by
  rcases Nat.eq_zero_or_pos n with rfl | hn
  · exact Or.inl fd_i0
  · obtain ⟨c, q, g1, g2, g3⟩ := fd_i hn h
    exact g1.k g2 g3
/-! with their ranges -/
theorem fd_k.mul {x z : UInt64} {l1 h1 l2 h2 : Int} (hx : fd_k l1 h1 x) (hz : fd_k l2 h2 z) (g1 : (-1074) ≤ l1 + l2 + 52) (g2 : h1 + h2 + 52 + 1 < 971) : fd_k (l1 + l2 + 52) (h1 + h2 + 52 + 2) (FP.dmul x z) := by
  rcases hx with rfl | ⟨c, q, hx, x1, x2⟩
  · rcases hz with rfl | ⟨d, r, hz, z1, z2⟩
    · exact Or.inl fd_mm
    · exact Or.inl (fd_m0 hz).1
  · rcases hz with rfl | ⟨d, r, hz, z1, z2⟩
    · exact Or.inl (fd_m0 hx).2.1
    · obtain ⟨c', q', i1, i2, i3⟩ := fd_mul hx hz (by omega) (by omega)
      exact i1.k (by omega) (by omega)
theorem fd_k.div {x z : UInt64} {l1 h1 l2 h2 : Int} (hx : fd_k l1 h1 x) (hz : ∃ d r, fd_n z d r ∧ l2 ≤ r ∧ r ≤ h2) (g1 : (-1074) ≤ l1 - h2 - 52 - 1) (g2 : h1 - l2 - 52 < 971) : fd_k (l1 - h2 - 52 - 1) (h1 - l2 - 52 + 1) (FP.ddiv x z) := by
  obtain ⟨d, r, hz, z1, z2⟩ := hz
  rcases hx with rfl | ⟨c, q, hx, x1, x2⟩
  · exact Or.inl (fd_m0 hz).2.2.1
  · obtain ⟨c', q', i1, i2, i3⟩ := fd_div hx hz (by omega) (by omega)
    exact i1.k (by omega) (by omega)
theorem fd_k.add {x z : UInt64} {l1 h1 l2 h2 : Int} (hx : fd_k l1 h1 x) (hz : fd_k l2 h2 z) (gg : l1 ≤ l2) (g2 : h1 + 1 < 971) (g3 : h2 ≤ h1) : fd_k l1 (h1 + 2) (FP.dadd x z) := by
  rcases hx with rfl | ⟨c, q, hx, x1, x2⟩
  · rcases hz with rfl | ⟨d, r, hz, z1, z2⟩
    · exact Or.inl fd_00
    · rw [fd_add0 hz]; exact hz.k (by omega) (by omega)
  · rcases hz with rfl | ⟨d, r, hz, z1, z2⟩
    · rw [(fd_m0 hx).2.2.2]; exact hx.k (by omega) (by omega)
    · rcases Int.le_total r q with hh | hh
      · obtain ⟨c', q', i1, i2, i3⟩ := fd_add hx hz hh (by omega)
        exact i1.k (by omega) (by omega)
      · obtain ⟨c', q', i1, i2, i3⟩ := fd_add hz hx hh (by omega)
        rw [fd_add_comm x z ⟨_, _, _, _, hx.1, hz.1⟩]
        exact i1.k (by omega) (by omega)
/-! compared -/
/-- what it is worth, as a whole number of least parts -/
def fd_v (x : UInt64) : Nat := match FP.Core.decode FP.Core.b64 x.toNat with | .fin _ c q => c * 2 ^ (q + 1074).toNat | _ => 0
theorem fd_v0 : fd_v 0 = 0 := by unfold fd_v; rw [fd_zero]; exact Nat.zero_mul _
theorem fd_vn {x : UInt64} {c : Nat} {q : Int} (h : fd_n x c q) : fd_v x = c * 2 ^ (q + 1074).toNat := by unfold fd_v; rw [h.1]
theorem fd_dk {lo hi : Int} {x : UInt64} (h : fd_k lo hi x) : ∃ c q, FP.Core.decode FP.Core.b64 x.toNat = .fin false c q ∧ (-1074) ≤ q := by
  rcases h with rfl | ⟨c, q, h, -, -⟩
  · exact ⟨0, _, fd_zero, Int.le_refl _⟩
  · exact ⟨c, q, h.1, h.2.2.2.1⟩
theorem fd_cmp {x z : UInt64} (hx : ∃ c q, FP.Core.decode FP.Core.b64 x.toNat = .fin false c q ∧ (-1074) ≤ q) (hz : ∃ c q, FP.Core.decode FP.Core.b64 z.toNat = .fin false c q ∧ (-1074) ≤ q) : FP.dcmp x z = some (compare (fd_v x : Int) (fd_v z : Int)) := by
  obtain ⟨c, q, x0, x3⟩ := hx
  obtain ⟨d, r, z0, z3⟩ := hz
  show FP.Core.order (FP.Core.decode FP.Core.b64 x.toNat) (FP.Core.decode FP.Core.b64 z.toNat) = _
  unfold fd_v
  rw [x0, z0]
  show some (compare (FP.Core.signed false (FP.Core.inUnits c q (min q r))) (FP.Core.signed false (FP.Core.inUnits d r (min q r)))) = some (compare ((c * 2 ^ (q + 1074).toNat : Nat) : Int) ((d * 2 ^ (r + 1074).toNat : Nat) : Int))
  congr 1
  unfold FP.Core.signed FP.Core.inUnits
  rw [if_neg (by decide), if_neg (by decide)]
  obtain ⟨k, hk⟩ : ∃ k : Nat, min q r + 1074 = k := ⟨(min q r + 1074).toNat, by omega⟩
  rw [show (q + 1074).toNat = (q - min q r).toNat + k by omega, show (r + 1074).toNat = (r - min q r).toNat + k by omega, Nat.pow_add, Nat.pow_add, ← Nat.mul_assoc, ← Nat.mul_assoc]
  generalize c * 2 ^ (q - min q r).toNat = M
  generalize d * 2 ^ (r - min q r).toNat = N
  have hp : 0 < 2 ^ k := Nat.two_pow_pos k
  rcases Nat.lt_trichotomy M N with h | h | h
  · have h' := Nat.mul_lt_mul_of_pos_right h hp
    rw [fl_clt (by omega), fl_clt (by omega)]
  · subst h
    rw [fl_ceq (rfl), fl_ceq rfl]
  · have h' := Nat.mul_lt_mul_of_pos_right h hp
    rw [fl_cgt (by omega), fl_cgt (by omega)]
