/-! what both sides compute: a holds 4 settings, 8 accounts, 24 blocks of 10, 10 orders of 6, 3 lorries of 4 -/
def qa_in (v lw hi : Int32) : Bool := decide (lw ≤ v) && decide (v ≤ hi)
theorem qa_in_t {v lw hi : Int32} (h1 : lw ≤ v) (h2 : v ≤ hi) : qa_in v lw hi = true := by simp [qa_in, h1, h2]
theorem qa_in_f1 {v lw hi : Int32} (h1 : v < lw) : qa_in v lw hi = false := by simp [qa_in, Int32.not_le.mpr h1]
theorem qa_in_f2 {v lw hi : Int32} (h1 : hi < v) : qa_in v lw hi = false := by simp [qa_in, Int32.not_le.mpr h1]
/-- in [0, n): as a number -/
theorem qa_ix {x : Int32} {n : Nat} (hn : n < 2 ^ 31) (h : qa_in x 0 (nI n - 1) = true) : ∃ j : Nat, j < n ∧ x = nI j := zz_rng' hn h
theorem qa_xi {n j : Nat} (hn : n < 2 ^ 31) (h : j < n) : qa_in (nI j) 0 (nI n - 1) = true := (zz_rng hn).mpr ⟨j, h, rfl⟩
/-- in [0, k]: as a number -/
theorem qa_ixk {x : Int32} (k : Nat) (hk : k < 2 ^ 31) (h : qa_in x 0 (nI k) = true) : ∃ j : Nat, j ≤ k ∧ x = nI j := by
  simp only [qa_in, Bool.and_eq_true, decide_eq_true_eq] at h
  have h3 : ¬ x < 0 := Int32.not_lt.mpr h.1
  obtain ⟨j, hj, rfl⟩ := nI_of h3
  exact ⟨j, (nI_leI hj hk).mp h.2, rfl⟩
theorem qa_ixl {x : Int32} (w k : Nat) (hk : k < 2 ^ 31) (h : qa_in x (nI w) (nI k) = true) (hw : w < 2 ^ 31) : ∃ j : Nat, w ≤ j ∧ j ≤ k ∧ x = nI j := by
  simp only [qa_in, Bool.and_eq_true, decide_eq_true_eq] at h
  have h3 : ¬ x < 0 := by
    refine Int32.not_lt.mpr ?_
    exact Int32.le_trans (nI_pos' hw) h.1
  obtain ⟨j, hj, rfl⟩ := nI_of h3
  exact ⟨j, (nI_leI hw hj).mp h.1, (nI_leI hj hk).mp h.2, rfl⟩
def qa_w (a : Nat → Int32) (b : Nat) : Int32 := a (12 + 10 * b) * a (12 + 10 * b + 1) * a (12 + 10 * b + 2) * a (12 + 10 * b + 3) / 10000
/-- how many of the first n -/
def qa_cnt (f : Nat → Bool) : Nat → Nat
  | 0 => 0
  | n + 1 => qa_cnt f n + (if f n then 1 else 0)
theorem qa_cnt_le (f : Nat → Bool) (n : Nat) : qa_cnt f n ≤ n := by
  induction n with
  | zero => exact Nat.le_refl _
  | succ n ih => show qa_cnt f n + _ ≤ _; split <;> omega
/-- which of the first n, as a set of bits -/
def qa_or (f : Nat → Bool) : Nat → Int32
  | 0 => 0
  | n + 1 => qa_or f n ||| (if f n then (1 : Int32) <<< (nI n &&& 31) else 0)
def qa_sum (g : Nat → Int32) : Nat → Int32
  | 0 => 0
  | n + 1 => qa_sum g n + g n
/-- three numbers from the greatest to the least -/
def qa_hi (x y : Int32) : Int32 := if x ≤ y then y else x
def qa_lw (x y : Int32) : Int32 := if x ≤ y then x else y
def qa_s0 (x y z : Int32) : Int32 := if z ≤ qa_hi x y then qa_hi x y else z
def qa_s2 (x y z : Int32) : Int32 := if qa_lw x y ≤ z then qa_lw x y else z
def qa_s1 (x y z : Int32) : Int32 := x + y + z - qa_s0 x y z - qa_s2 x y z
def qa_srt (x y z : Int32) (k : Nat) : Int32 := if k = 0 then qa_s0 x y z else if k = 1 then qa_s1 x y z else qa_s2 x y z
/-- by how much sorted sizes are more than an order's -/
def qa_more (a : Nat → Int32) (o : Nat) (x y z : Int32) (k : Nat) : Int32 := qa_srt x y z k - a (252 + 6 * o + k)
def qa_fit (a : Nat → Int32) (o : Nat) (x y z : Int32) : Nat → Bool
  | 0 => true
  | k + 1 => qa_fit a o x y z k && qa_in (qa_more a o x y z k) 0 (a 3)
def qa_exc (a : Nat → Int32) (o : Nat) (x y z : Int32) : Int32 := if qa_fit a o x y z 3 then qa_sum (qa_more a o x y z) 3 else -6
def qa_excOf (a : Nat → Int32) (o b : Nat) : Int32 := if a (12 + 10 * b + 6) = 1 then -6 else qa_exc a o (a (12 + 10 * b)) (a (12 + 10 * b + 1)) (a (12 + 10 * b + 2))
def qa_free (a : Nat → Int32) (b : Nat) : Bool := decide (a (12 + 10 * b + 7) = -6) && !decide (a (12 + 10 * b + 4) = 3) && !decide (a (12 + 10 * b + 4) = 4)
def qa_can (a : Nat → Int32) (o b : Nat) : Bool := decide (a (252 + 6 * o + 3) = 0) && qa_free a b && !decide (qa_excOf a o b = -6)
/-- the block at a spot -/
def qa_find (a : Nat → Int32) (v : Int32) : Nat → Int32
  | 0 => -6
  | n + 1 => if a (12 + 10 * n + 8) = v then nI n else qa_find a v n
theorem qa_find_c (a : Nat → Int32) (v : Int32) (n : Nat) : qa_find a v n = -6 ∨ ∃ b : Nat, b < n ∧ qa_find a v n = nI b ∧ a (12 + 10 * b + 8) = v := by
  induction n with
  | zero => exact Or.inl rfl
  | succ n ih =>
    unfold qa_find
    split
    · exact Or.inr ⟨n, by omega, rfl, ‹_›⟩
    · rcases ih with h | ⟨b, h1, h2, h3⟩
      · exact Or.inl h
      · exact Or.inr ⟨b, by omega, h2, h3⟩
theorem qa_find_i {a : Nat → Int32} {v : Int32} {n : Nat} (h : ¬ qa_find a v n = -6) : ∃ b : Nat, b < n ∧ qa_find a v n = nI b ∧ a (12 + 10 * b + 8) = v := (qa_find_c a v n).resolve_left h
theorem qa_n6 {b : Nat} (hb : b < 2 ^ 31) : ¬ nI b = (-6 : Int32) := fun q => by
  have h := nI_toInt hb
  rw [q] at h
  have e : ((-6 : Int32)).toInt = -6 := by decide
  omega
/-- what stands at the first p places of a lorry -/
def qa_pw (a : Nat → Int32) (nb : Nat) (v : Int32) : Int32 := if qa_find a v nb = -6 then 0 else qa_w a (qa_find a v nb).toNatClampNeg
def qa_load (a : Nat → Int32) (nb : Nat) (l : Int32) : Nat → Int32
  | 0 => 0
  | p + 1 => qa_load a nb l p + qa_pw a nb (5 * l + nI p)
def qa_on (a : Nat → Int32) (nb : Nat) (l : Int32) : Nat → Int32
  | 0 => 0
  | p + 1 => qa_on a nb l p ||| (if qa_find a (5 * l + nI p) nb = -6 then 0 else (1 : Int32) <<< (qa_find a (5 * l + nI p) nb &&& 31))
def qa_hc (a : Nat → Int32) (nb : Nat) (l : Int32) : Nat → Bool
  | 0 => false
  | p + 1 => qa_hc a nb l p || (!decide (qa_find a (5 * l + nI p) nb = -6) && decide (a (12 + 10 * (qa_find a (5 * l + nI p) nb).toNatClampNeg + 6) = 1))
def qa_setf (a : Nat → Int32) (c : Bool) (b : Nat) : Bool := if c then decide (a (12 + 10 * b + 6) = 1) && !decide (a (12 + 10 * b + 4) = 4) else decide (a (12 + 10 * b + 4) = 1)
def qa_wc (a : Nat → Int32) (b : Nat) : Bool := decide (a (12 + 10 * b + 4) = 0) && !decide (a (12 + 10 * b + 5) ≤ 0) && decide (a (12 + 10 * b + 6) = 0)
def qa_here (a : Nat → Int32) (b : Nat) : Bool := decide (a (12 + 10 * b + 4) = 0) || decide (a (12 + 10 * b + 4) = 1)
def qa_cbc (a : Nat → Int32) (b : Nat) : Bool := decide (a 7 = 0) && qa_here a b && decide (a (12 + 10 * b + 7) = -6)
def qa_ncf (a : Nat → Int32) (c : Bool) (b : Nat) : Int32 := if a (12 + 10 * b + 4) = 4 then 0 else if c then qa_w a b else 1
