/-! how the twin reads its pad: a place and whether something was wrong -/
def tp_cur (pd : Nat → Int32) (len p : Nat) : Int32 := if p < len then pd p else 0
def tp_take (pd : Nat → Int32) (len : Nat) (lw hi : Int32) (q : Nat × Bool) : Nat × Bool :=
  if (q.2 || !qa_in (tp_cur pd len q.1) lw hi) = true then (q.1, true) else (q.1 + 1, false)
def tp_next (pd : Nat → Int32) (len : Nat) (lw hi : Int32) (q : Nat × Bool) : Bool := !q.2 && decide (q.1 < len) && qa_in (pd q.1) lw hi
def tp_numL (pd : Nat → Int32) (len : Nat) : Nat → Int32 → Nat × Bool → Int32 × (Nat × Bool)
  | 0, v, q => (v, q)
  | k + 1, v, q => if ¬ v ≤ 0 ∧ tp_next pd len 48 57 q = true then tp_numL pd len k (10 * v + (tp_cur pd len q.1 - 48)) (tp_take pd len 48 57 q) else (v, q)
def tp_num (pd : Nat → Int32) (len : Nat) (q : Nat × Bool) : Int32 × (Nat × Bool) := tp_numL pd len 2 (tp_cur pd len q.1 - 48) (tp_take pd len 48 57 q)
def tp_beh (pd : Nat → Int32) (len : Nat) (s : Int32) (q : Nat × Bool) : Int32 × (Nat × Bool) := tp_num pd len (tp_take pd len s s q)
theorem tp_take_le {pd : Nat → Int32} {len : Nat} {lw hi : Int32} {q : Nat × Bool} (h : q.1 ≤ len) (h0 : qa_in 0 lw hi = false) : (tp_take pd len lw hi q).1 ≤ len := by
  unfold tp_take
  split
  · exact h
  · rename_i hh
    show q.1 + 1 ≤ len
    by_cases hl : q.1 < len
    · omega
    · exfalso
      apply hh
      rw [show tp_cur pd len q.1 = 0 from if_neg hl, h0]
      simp
theorem tp_take_ge {pd : Nat → Int32} {len : Nat} {lw hi : Int32} {q : Nat × Bool} : q.1 ≤ (tp_take pd len lw hi q).1 := by
  unfold tp_take
  split
  · exact Nat.le_refl _
  · exact Nat.le_succ _
theorem tp_numL_le {pd : Nat → Int32} {len : Nat} : ∀ (k : Nat) (v : Int32) (q : Nat × Bool), q.1 ≤ len → (tp_numL pd len k v q).2.1 ≤ len
  | 0, _, _, h => h
  | k + 1, v, q, h => by
    unfold tp_numL
    split
    · exact tp_numL_le k _ _ (tp_take_le h (by decide))
    · exact h
theorem tp_numL_ge {pd : Nat → Int32} {len : Nat} : ∀ (k : Nat) (v : Int32) (q : Nat × Bool), q.1 ≤ (tp_numL pd len k v q).2.1
  | 0, _, _ => Nat.le_refl _
  | k + 1, v, q => by
    unfold tp_numL
    split
    · exact Nat.le_trans tp_take_ge (tp_numL_ge k _ _)
    · exact Nat.le_refl _
theorem tp_num_le {pd : Nat → Int32} {len : Nat} {q : Nat × Bool} (h : q.1 ≤ len) : (tp_num pd len q).2.1 ≤ len := tp_numL_le _ _ _ (tp_take_le h (by decide))
theorem tp_num_ge {pd : Nat → Int32} {len : Nat} {q : Nat × Bool} : q.1 ≤ (tp_num pd len q).2.1 := Nat.le_trans tp_take_ge (tp_numL_ge _ _ _)
theorem tp_beh_le {pd : Nat → Int32} {len : Nat} {s : Int32} {q : Nat × Bool} (h : q.1 ≤ len) (h0 : qa_in 0 s s = false) : (tp_beh pd len s q).2.1 ≤ len := tp_num_le (tp_take_le h h0)
theorem tp_beh_ge {pd : Nat → Int32} {len : Nat} {s : Int32} {q : Nat × Bool} : q.1 ≤ (tp_beh pd len s q).2.1 := Nat.le_trans tp_take_ge tp_num_ge
