/-! leaving, and what is asked -/
/-- orders of blocks are orders -/
def qa_ob (a : Nat → Int32) (nb : Nat) : Prop := ∀ b : Nat, b < nb → a (12 + 10 * b + 7) = -6 ∨ ∃ o : Nat, o < 10 ∧ a (12 + 10 * b + 7) = nI o
theorem qa_del_o {a : Nat → Int32} {b j : Nat} (hor : a (12 + 10 * b + 7) = -6 ∨ ∃ o : Nat, o < 10 ∧ a (12 + 10 * b + 7) = nI o) (h4 : j ≠ 12 + 10 * b + 4) (h8 : j ≠ 12 + 10 * b + 8) (h10 : j ≠ 10) (hj : j < 252 ∨ 312 ≤ j) : qa_del a b j = a j := by
  have h2 : qa_del2 a b j = a j := by
    unfold qa_del2 qa_del1
    rw [up_n h10, up_n h8, up_n h4]
  unfold qa_del
  split
  · exact h2
  · rename_i hn
    obtain ⟨o, ho, eo⟩ := hor.resolve_left hn
    rw [eo, nI_clamp (by omega), up_n (by omega), up_n (by omega)]
    exact h2
theorem qa_lv_o {a : Nat → Int32} {nb : Nat} (l : Int32) (hnb : nb ≤ 24) (hob : qa_ob a nb) : ∀ p : Nat, ∀ j : Nat, (j < 252 ∨ 312 ≤ j) → j ≠ 10 → (∀ b : Nat, b < nb → j ≠ 12 + 10 * b + 4 ∧ j ≠ 12 + 10 * b + 8) → (qa_lv a nb l p).2 j = a j
  | 0, _, _, _, _ => rfl
  | p + 1, j, h1, h2, h3 => by
    have ih := qa_lv_o l hnb hob p
    unfold qa_lv
    split
    · exact ih j h1 h2 h3
    · rename_i hn
      obtain ⟨b, hb, eb, -⟩ := qa_find_i hn
      show qa_del _ _ j = a j
      rw [eb, nI_clamp (by omega)]
      have e7 : (qa_lv a nb l p).2 (12 + 10 * b + 7) = a (12 + 10 * b + 7) := ih _ (by omega) (by omega) (fun b' hb' => by omega)
      rw [qa_del_o (by rw [e7]; exact hob b hb) (h3 b hb).1 (h3 b hb).2 h2 h1]
      exact ih j h1 h2 h3
theorem qa_lv_ob {a : Nat → Int32} {nb : Nat} (l : Int32) (hnb : nb ≤ 24) (hob : qa_ob a nb) (p : Nat) : qa_ob (qa_lv a nb l p).2 nb := by
  intro b hb
  rw [qa_lv_o l hnb hob p _ (by omega) (by omega) (fun b' hb' => by omega)]
  exact hob b hb
def op_leaves (a : Nat → Int32) (v0 : Int32) : Int32 × (Nat → Int32) :=
  if qa_in v0 0 2 = false then (-1, a) else if ¬ qa_why a (a 5).toNatClampNeg v0 ≤ 0 then (-5, a) else
  ((qa_lv a (a 5).toNatClampNeg v0 5).1, qa_left (qa_lv a (a 5).toNatClampNeg v0 5).2 (312 + 4 * v0.toNatClampNeg + 3) (qa_lv a (a 5).toNatClampNeg v0 5).1)
def op_does (a : Nat → Int32) (c x y z d : Int32) : Int32 × (Nat → Int32) :=
  if c = 113 then op_quarries a x y z d else if c = 99 then op_cuts a x y z else if c = 111 then op_orders a x y z else if c = 103 then op_gives a x y else if c = 108 then op_loads a x y z else if c = 110 then op_nights a x else op_leaves a x
def op_of (a : Nat → Int32) (v0 v1 : Int32) : Int32 :=
  if qa_in v0 0 (a 5 - 1) = false then -1 else if v1 = 4 then qa_w a v0.toNatClampNeg else if qa_in v1 0 3 = true then a (12 + 10 * v0.toNatClampNeg + v1.toNatClampNeg) else if qa_in v1 5 10 = true then a (12 + 10 * v0.toNatClampNeg + (v1.toNatClampNeg - 1)) else -2
def op_ofOrder (a : Nat → Int32) (v0 v1 : Int32) : Int32 :=
  if qa_in v0 0 (a 6 - 1) = false then -1 else if qa_in v1 0 5 = true then a (252 + 6 * v0.toNatClampNeg + v1.toNatClampNeg) else if v1 = 6 then qa_or (qa_can a v0.toNatClampNeg) (a 5).toNatClampNeg else -2
def op_ofLorry (a : Nat → Int32) (v0 v1 : Int32) : Int32 :=
  if qa_in v0 0 2 = false then -1 else if v1.toInt < 0 ∨ 7 < v1.toInt then -2 else
  match v1.toNatClampNeg with
  | 0 => qa_load a (a 5).toNatClampNeg v0 5
  | 1 => (qa_ax a (a 5).toNatClampNeg v0 false (-6) (-6) 5).toInt32
  | 2 => (qa_ax a (a 5).toNatClampNeg v0 true (-6) (-6) 5).toInt32
  | 3 => qa_on a (a 5).toNatClampNeg v0 5
  | k + 4 => a (312 + 4 * v0.toNatClampNeg + k)
def op_count (a : Nat → Int32) (len kp : Nat) (v0 : Int32) : Int32 :=
  if v0.toInt < 0 ∨ 16 < v0.toInt then -2 else
  match v0.toNatClampNeg with
  | 0 => a 4
  | 1 => a 5
  | 2 => a 6
  | 3 => a 7
  | 4 => qa_or (qa_setf a false) (a 5).toNatClampNeg
  | 5 => qa_or (qa_setf a true) (a 5).toNatClampNeg
  | 6 => a 8
  | 7 => qa_sum (qa_ncf a true) (a 5).toNatClampNeg
  | 8 => a 9
  | 9 => a 10
  | 10 => a 11
  | 11 => a 1
  | 12 => a 0
  | 13 => a 2 + 100
  | 14 => a 3
  | 15 => nI len
  | _ => nI kp
theorem zz_sw (n : Nat) (v : Int32) : (∃ k : Nat, k ≤ n ∧ v = nI k) ∨ (v.toInt < 0 ∨ (n : Int) < v.toInt) := by
  by_cases h : v < 0
  · exact Or.inr (Or.inl (by rw [Int32.lt_iff_toInt_lt] at h; exact h))
  · obtain ⟨k, hk, rfl⟩ := nI_of h
    rw [nI_toInt hk]
    by_cases hn : k ≤ n
    · exact Or.inl ⟨k, hn, rfl⟩
    · exact Or.inr (Or.inr (by omega))
theorem zz_sb {v : Int32} {k : Nat} (b : Nat) (h : v = nI k) (hb : b ≤ k) : v - nI b = nI (k - b) := by rw [h]; exact pk_sub hb
/-- the best block for an order, looked for from the last one on -/
def qa_bb (a : Nat → Int32) (nb o : Nat) : Nat → Int32
  | 0 => -6
  | n + 1 => if qa_can a o (nb - 1 - n) = true ∧ (qa_bb a nb o n = -6 ∨ qa_excOf a o (nb - 1 - n) ≤ qa_excOf a o (qa_bb a nb o n).toNatClampNeg) then nI (nb - 1 - n) else qa_bb a nb o n
theorem qa_bb_c (a : Nat → Int32) (nb o : Nat) : ∀ n : Nat, n ≤ nb → qa_bb a nb o n = -6 ∨ ∃ b : Nat, b < nb ∧ qa_bb a nb o n = nI b
  | 0, _ => Or.inl rfl
  | n + 1, h => by
    unfold qa_bb
    split
    · exact Or.inr ⟨nb - 1 - n, by omega, rfl⟩
    · exact qa_bb_c a nb o n (by omega)
theorem qa_bb_s {a : Nat → Int32} {nb o n j : Nat} (e : nb - 1 - n = j) (h1 : qa_can a o j = true) (h2 : qa_bb a nb o n = -6 ∨ qa_excOf a o j ≤ qa_excOf a o (qa_bb a nb o n).toNatClampNeg) : qa_bb a nb o (n + 1) = nI j := by
  subst e
  exact if_pos ⟨h1, h2⟩
theorem qa_bb_n {a : Nat → Int32} {nb o n j : Nat} (e : nb - 1 - n = j) (h : qa_can a o j = false ∨ (¬ qa_bb a nb o n = -6 ∧ ¬ qa_excOf a o j ≤ qa_excOf a o (qa_bb a nb o n).toNatClampNeg)) : qa_bb a nb o (n + 1) = qa_bb a nb o n := by
  subst e
  refine if_neg (fun q => ?_)
  rcases h with h | ⟨h1, h2⟩
  · rw [h] at q; exact absurd q.1 (by decide)
  · exact q.2.elim h1 h2
def op_bb (a : Nat → Int32) (v0 : Int32) : Int32 :=
  if qa_in v0 0 (a 6 - 1) = false then -1 else if ¬ a (252 + 6 * v0.toNatClampNeg + 3) = 0 then -5 else qa_bb a (a 5).toNatClampNeg v0.toNatClampNeg (a 5).toNatClampNeg
/-- whether the first block of a cut fits an order -/
def qa_at (a : Nat → Int32) (b k i : Nat) (sz : Int32) : Int32 := if k = i then sz else a (12 + 10 * b + i)
def qa_isf (a : Nat → Int32) (o b k : Nat) (sz : Int32) : Bool := decide (1 ≤ qa_rest a b k sz) && decide (a (12 + 10 * b + 6) = 0) && !decide (qa_exc a o (qa_at a b k 0 sz) (qa_at a b k 1 sz) (qa_at a b k 2 sz) = -6)
/-- the first of n from i on -/
def qa_fst (f : Nat → Bool) : Nat → Nat → Option Nat
  | 0, _ => none
  | n + 1, i => if f i = true then some i else qa_fst f n (i + 1)
def qa_ff (a : Nat → Int32) (o b : Nat) (k : Nat) : Bool := qa_isf a o b (k / 300) (1 + nI (k % 300))
def op_fc (a : Nat → Int32) (v0 v1 v2 : Int32) : Int32 :=
  if qa_in v0 0 (a 6 - 1) = false then -1 else if qa_in v1 0 (a 5 - 1) = false then -1 else if qa_in v2 0 1 = false then -2 else if qa_cbc a v1.toNatClampNeg = false then -5 else
  match qa_fst (qa_ff a v0.toNatClampNeg v1.toNatClampNeg) 900 0 with
  | none => -6
  | some k => if v2 = 0 then nI (k / 300) else 1 + nI (k % 300)
/-- eight characters -/
def pt_s (v : Int64) (k : Nat) : Int64 := (v.toUInt64 >>> ((nI (8 * k)).toInt64.toUInt64 &&& Int64.toUInt64 63)).toInt64
def pt_c (v : Int64) (k : Nat) : Int32 := (pt_s v k &&& 255).toInt32
def pt_end (v : Int64) (k : Nat) : Bool := decide (0 < k) && decide (pt_s v k = 0)
def pt_bad (v : Int64) : Nat → Bool
  | 0 => false
  | k + 1 => pt_bad v k || (!pt_end v k && !qa_in (pt_c v k) 33 126)
def pt_many (v : Int64) (n : Nat) : Nat := qa_cnt (fun k => !pt_end v k) n
def op_put (v : Int64) (len : Nat) : Int32 := if pt_bad v 8 = true then -2 else if ¬ nI len + nI (pt_many v 8) ≤ 80 then -4 else nI (len + pt_many v 8)
/-- what a put does to the pad -/
def qa_pt (v : Int64) (len : Nat) (pd pd' : Nat → Int32) (len' : Nat) : Prop :=
  if pt_bad v 8 = true ∨ 80 < len + pt_many v 8 then pd' = pd ∧ len' = len else
  len' = len + pt_many v 8 ∧ (∀ j : Nat, j < len → pd' j = pd j) ∧ ∀ k : Nat, k < pt_many v 8 → pd' (len + pt_many v 8 - 1 - k) = pt_c v k
theorem pt_many_le (v : Int64) (n : Nat) : pt_many v n ≤ n := qa_cnt_le _ _
theorem pt_many_s (v : Int64) (n : Nat) : nI (pt_many v n) + (if pt_end v n = true then 0 else 1) = nI (pt_many v (n + 1)) := by
  unfold pt_many
  show _ = nI (qa_cnt _ n + if (!pt_end v n) = true then 1 else 0)
  split
  · rename_i h
    rw [h]
    exact Int32.add_zero _
  · rename_i h
    rw [Bool.not_eq_true _ |>.mp h]
    exact nI_1 _
