/-! floats, any format: what a rounding gives when it is in range; exact when it can be -/
theorem fl_sc {A B u v : Nat} {k : Int} (hk : k = (u : Int) - v) : B * 2 ^ k.toNat ≤ A * 2 ^ (-k).toNat ↔ B * 2 ^ u ≤ A * 2 ^ v := by
  rcases Nat.le_total v u with h | h
  · obtain ⟨t, rfl⟩ : ∃ t, u = t + v := ⟨u - v, by omega⟩
    rw [show k.toNat = t by omega, show (-k).toNat = 0 by omega, Nat.pow_zero, Nat.mul_one, Nat.pow_add, ← Nat.mul_assoc]
    exact ⟨fun q => Nat.mul_le_mul_right _ q, fun q => Nat.le_of_mul_le_mul_right q (Nat.two_pow_pos v)⟩
  · obtain ⟨t, rfl⟩ : ∃ t, v = t + u := ⟨v - u, by omega⟩
    rw [show k.toNat = 0 by omega, show (-k).toNat = t by omega, Nat.pow_zero, Nat.mul_one, Nat.pow_add, ← Nat.mul_assoc]
    exact ⟨fun q => Nat.mul_le_mul_right _ q, fun q => Nat.le_of_mul_le_mul_right q (Nat.two_pow_pos u)⟩
theorem fl_cs {A B u v : Nat} {k : Int} (hk : k = (u : Int) - v) : A * 2 ^ (-k).toNat ≤ B * 2 ^ k.toNat ↔ A * 2 ^ v ≤ B * 2 ^ u := by
  have h := fl_sc (A := B) (B := A) (u := v) (v := u) (k := -k) (by omega)
  rw [Int.neg_neg] at h
  exact h
theorem fl_lead {A B u v : Nat} (hA : 0 < A) (hB : 0 < B) (h1 : B * 2 ^ u ≤ A * 2 ^ v) (h2 : A * 2 ^ v < B * 2 ^ (u + 1)) : FP.Core.leading A B = (u : Int) - v := by
  have a1 : 2 ^ A.log2 ≤ A := Nat.log2_self_le (by omega)
  have a2 : A < 2 ^ (A.log2 + 1) := Nat.lt_log2_self
  have b1 : 2 ^ B.log2 ≤ B := Nat.log2_self_le (by omega)
  have b2 : B < 2 ^ (B.log2 + 1) := Nat.lt_log2_self
  have l1 : B.log2 + u < A.log2 + 1 + v := by
    refine (Nat.pow_lt_pow_iff_right (a := 2) (by decide)).mp ?_
    rw [Nat.pow_add, Nat.pow_add]
    exact Nat.lt_of_le_of_lt (Nat.le_trans (Nat.mul_le_mul_right _ b1) h1) (Nat.mul_lt_mul_of_pos_right a2 (Nat.two_pow_pos _))
  have l2 : A.log2 + v < B.log2 + 1 + (u + 1) := by
    refine (Nat.pow_lt_pow_iff_right (a := 2) (by decide)).mp ?_
    rw [Nat.pow_add, Nat.pow_add 2 (B.log2 + 1)]
    exact Nat.lt_trans (Nat.lt_of_le_of_lt (Nat.mul_le_mul_right _ a1) h2) (Nat.mul_lt_mul_of_pos_right b2 (Nat.two_pow_pos _))
  unfold FP.Core.leading
  show (if B * 2 ^ ((A.log2 : Int) - (B.log2 : Int)).toNat ≤ A * 2 ^ (-((A.log2 : Int) - (B.log2 : Int))).toNat then ((A.log2 : Int) - (B.log2 : Int)) else ((A.log2 : Int) - (B.log2 : Int)) - 1) = _
  by_cases hc : A.log2 + v = B.log2 + u
  · rw [if_pos ((fl_sc (u := u) (v := v) (by omega)).mpr h1)]
    omega
  · rw [if_neg (fun q => absurd ((fl_sc (u := u + 1) (v := v) (by omega)).mp q) (Nat.not_le.mpr h2))]
    omega
theorem fl_near_ge {n d M : Nat} (hd : 0 < d) (h : d * M ≤ n) : M ≤ FP.Core.nearest n d := by
  have h1 : M ≤ n / d := (Nat.le_div_iff_mul_le hd).mpr (by rw [Nat.mul_comm]; exact h)
  unfold FP.Core.nearest
  split
  · exact h1
  · split
    · omega
    · omega
theorem fl_near_le {n d M : Nat} (hd : 0 < d) (h : n < d * M) : FP.Core.nearest n d ≤ M := by
  have h1 : n / d < M := (Nat.div_lt_iff_lt_mul hd).mpr (by rw [Nat.mul_comm]; exact h)
  have h2 := Nat.mod_lt (n / d) (show 2 > 0 by decide)
  unfold FP.Core.nearest
  split
  · omega
  · split
    · omega
    · omega
theorem fl_near_eq {d c : Nat} (hd : 0 < d) : FP.Core.nearest (c * d) d = c := by
  unfold FP.Core.nearest
  rw [Nat.mul_mod_left, if_pos (by omega), Nat.mul_div_cancel _ hd]
/-- rounded, in range -/
theorem fl_rr {f : FP.Core.Fmt} {A B u v : Nat} {e q : Int} (hp : 1 ≤ f.p) (hA : 0 < A) (hB : 0 < B) (h1 : B * 2 ^ u ≤ A * 2 ^ v) (h2 : A * 2 ^ v < B * 2 ^ (u + 1)) (hq : q = (u : Int) - v + e - ((f.p : Int) - 1)) (h3 : f.qmin ≤ q) (h4 : q < f.qmax) : ∃ (c : Nat) (q' : Int), FP.Core.roundRatio f false A B e = .fin false c q' ∧ f.tails ≤ c ∧ c < 2 ^ f.p ∧ q ≤ q' ∧ q' ≤ q + 1 := by
  have hqq : FP.Core.quantum f A B e = q := by
    unfold FP.Core.quantum
    rw [fl_lead hA hB h1 h2, ← hq]
    exact Int.max_eq_right h3
  unfold FP.Core.roundRatio
  rw [if_neg (by omega), hqq]
  unfold FP.Core.roundAt
  have hd : 0 < FP.Core.unitsDen B e q := Nat.mul_pos hB (Nat.two_pow_pos _)
  have hk : q - e = (u : Int) - ((v + (f.p - 1) : Nat) : Int) := by omega
  have g1 : FP.Core.unitsDen B e q * 2 ^ (f.p - 1) ≤ FP.Core.unitsNum A e q := by
    have := (fl_sc (A := A) (B := B * 2 ^ (f.p - 1)) hk).mpr (by rw [Nat.pow_add, Nat.mul_right_comm, ← Nat.mul_assoc]; exact Nat.mul_le_mul_right _ h1)
    unfold FP.Core.unitsDen FP.Core.unitsNum
    rw [Nat.mul_right_comm]
    rw [Int.neg_sub] at this
    exact this
  have g2 : FP.Core.unitsNum A e q < FP.Core.unitsDen B e q * 2 ^ f.p := by
    refine Nat.not_le.mp (fun qq => ?_)
    unfold FP.Core.unitsDen FP.Core.unitsNum at qq
    rw [Nat.mul_right_comm, ← Int.neg_sub q e] at qq
    have := (fl_sc (A := A) (B := B * 2 ^ f.p) hk).mp qq
    rw [show f.p = 1 + (f.p - 1) by omega, Nat.pow_add 2 1, ← show f.p = 1 + (f.p - 1) by omega, Nat.pow_add, ← Nat.mul_assoc, ← Nat.mul_assoc, Nat.mul_right_comm] at this
    have h5 := Nat.le_of_mul_le_mul_right this (Nat.two_pow_pos (f.p - 1))
    rw [Nat.pow_one, Nat.mul_right_comm] at h5
    rw [Nat.pow_succ, ← Nat.mul_assoc] at h2
    exact absurd h2 (Nat.not_lt.mpr h5)
  have n1 : f.tails ≤ FP.Core.nearest (FP.Core.unitsNum A e q) (FP.Core.unitsDen B e q) := fl_near_ge hd g1
  have n2 := fl_near_le hd g2
  unfold FP.Core.settle
  split
  · unfold FP.Core.bound
    rw [if_pos (by omega)]
    exact ⟨_, q, rfl, n1, ‹_›, Int.le_refl _, by omega⟩
  · unfold FP.Core.bound
    rw [if_pos (by omega)]
    exact ⟨_, q + 1, rfl, Nat.le_refl _, Nat.pow_lt_pow_right (by decide) (by omega), by omega, Int.le_refl _⟩
/-- rounded, exact -/
theorem fl_re {f : FP.Core.Fmt} {A B c x y : Nat} {e q : Int} (hp : 1 ≤ f.p) (hB : 0 < B) (hc1 : f.tails ≤ c) (hc2 : c < 2 ^ f.p) (h : A * 2 ^ x = c * B * 2 ^ y) (hq : q - e = (y : Int) - x) (h3 : f.qmin ≤ q) (h4 : q ≤ f.qmax) : FP.Core.roundRatio f false A B e = .fin false c q := by
  have hc0 : 0 < c := Nat.lt_of_lt_of_le (Nat.two_pow_pos _) hc1
  have hA : 0 < A := by
    refine Nat.pos_of_ne_zero (fun q => ?_)
    rw [q, Nat.zero_mul] at h
    have := Nat.mul_pos (Nat.mul_pos hc0 hB) (Nat.two_pow_pos y)
    omega
  have e1 : B * 2 ^ (f.p - 1 + y) ≤ A * 2 ^ x := by
    rw [h, Nat.pow_add, ← Nat.mul_assoc, Nat.mul_comm c B]
    exact Nat.mul_le_mul_right _ (Nat.mul_le_mul_left _ hc1)
  have e2 : A * 2 ^ x < B * 2 ^ (f.p - 1 + y + 1) := by
    rw [h, show f.p - 1 + y + 1 = f.p + y by omega, Nat.pow_add, ← Nat.mul_assoc, Nat.mul_comm c B]
    exact Nat.mul_lt_mul_of_pos_right (Nat.mul_lt_mul_of_pos_left hc2 hB) (Nat.two_pow_pos _)
  have hqq : FP.Core.quantum f A B e = q := by
    unfold FP.Core.quantum
    rw [fl_lead hA hB e1 e2, show ((f.p - 1 + y : Nat) : Int) - x + e - ((f.p : Int) - 1) = q by omega]
    exact Int.max_eq_right h3
  unfold FP.Core.roundRatio
  rw [if_neg (by omega), hqq]
  unfold FP.Core.roundAt
  have hd : 0 < FP.Core.unitsDen B e q := Nat.mul_pos hB (Nat.two_pow_pos _)
  have g : FP.Core.unitsNum A e q = c * FP.Core.unitsDen B e q := by
    unfold FP.Core.unitsDen FP.Core.unitsNum
    rw [← Nat.mul_assoc]
    have i1 := (fl_sc (A := A) (B := c * B) (u := y) (v := x) hq).mpr (Nat.le_of_eq h.symm)
    have i2 := (fl_cs (A := A) (B := c * B) (u := y) (v := x) hq).mpr (Nat.le_of_eq h)
    rw [Int.neg_sub] at i1 i2
    exact Nat.le_antisymm i2 i1
  rw [g, fl_near_eq hd]
  unfold FP.Core.settle FP.Core.bound
  rw [if_pos hc2, if_pos h4]
