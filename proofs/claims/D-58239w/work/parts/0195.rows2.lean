theorem zz_gen {D : va_G} {b0 nL : Nat} {p : Program} {l : Launch} {e : Env} {R : Room} {s : State} {m : MethodId} {args : Array Value} {below : List Frame} {meth : Method} {c : Code} {Q : State → Prop} {cs ss : Nat} {h : zz_H} {lo : List (Nat × Value)} {pc : Nat} {st : List Value} {P : zz_H → Prop} (hp : P h) (k : ∀ hz : zz_H, P hz → zz_V D b0 nL p l e R s m args below meth c Q cs ss hz lo pc st) : zz_V D b0 nL p l e R s m args below meth c Q cs ss h lo pc st := k h hp
/-! an order, read by the twin -/
def tp_let (c : Int32) : Bool := decide (c = 113) || decide (c = 99) || decide (c = 111) || decide (c = 103) || decide (c = 108) || decide (c = 110) || decide (c = 100)
def tp_o1 (pd : Nat → Int32) (len : Nat) (q : Nat × Bool) : Nat × Bool := if (q.2 || !tp_let (tp_cur pd len q.1)) = true then (q.1, true) else (q.1 + 1, false)
def tp_ob (pd : Nat → Int32) (len : Nat) (q : Nat × Bool) : Bool := decide (tp_cur pd len q.1 = 110) && tp_next pd len 45 45 (tp_o1 pd len q)
def tp_o2 (pd : Nat → Int32) (len : Nat) (q : Nat × Bool) : Nat × Bool := if tp_ob pd len q = true then ((tp_o1 pd len q).1 + 1, (tp_o1 pd len q).2) else tp_o1 pd len q
def tp_o3 (pd : Nat → Int32) (len : Nat) (q : Nat × Bool) : Int32 × (Nat × Bool) := if tp_cur pd len q.1 = 100 then (tp_cur pd len (tp_o2 pd len q).1 - 48, tp_take pd len 48 57 (tp_o2 pd len q)) else tp_num pd len (tp_o2 pd len q)
def tp_oa (pd : Nat → Int32) (len : Nat) (q : Nat × Bool) : Int32 := if tp_ob pd len q = true then -(tp_o3 pd len q).1 else (tp_o3 pd len q).1
def tp_tail (pd : Nat → Int32) (len : Nat) (c : Int32) (to : Nat → Int32) (q : Nat × Bool) : (Nat → Int32) × (Nat × Bool) :=
  if c = 113 then (upd (upd (upd to 2 (tp_beh pd len 120 q).1) 3 (tp_beh pd len 120 (tp_beh pd len 120 q).2).1) 4 (tp_beh pd len 42 (tp_beh pd len 120 (tp_beh pd len 120 q).2).2).1, (tp_beh pd len 42 (tp_beh pd len 120 (tp_beh pd len 120 q).2).2).2) else
  if c = 111 then (upd (upd (upd to 2 (tp_beh pd len 120 q).1) 3 (tp_beh pd len 120 (tp_beh pd len 120 q).2).1) 4 0, (tp_beh pd len 120 (tp_beh pd len 120 q).2).2) else
  if c = 103 then (upd to 2 (tp_beh pd len 61 q).1, (tp_beh pd len 61 q).2) else
  if c = 99 then (upd (upd to 2 (tp_cur pd len (tp_take pd len 46 46 q).1 - 48)) 3 (tp_beh pd len 64 (tp_take pd len 48 57 (tp_take pd len 46 46 q))).1, (tp_beh pd len 64 (tp_take pd len 48 57 (tp_take pd len 46 46 q))).2) else
  if c = 108 then (upd (upd to 2 (tp_cur pd len (tp_take pd len 46 46 q).1 - 48)) 3 (tp_cur pd len (tp_take pd len 48 57 (tp_take pd len 46 46 q)).1 - 48), tp_take pd len 48 57 (tp_take pd len 48 57 (tp_take pd len 46 46 q))) else
  (to, q)
def tp_ord (pd : Nat → Int32) (len : Nat) (to : Nat → Int32) (q : Nat × Bool) : (Nat → Int32) × (Nat × Bool) := tp_tail pd len (tp_cur pd len q.1) (upd (upd (upd to 0 (tp_cur pd len q.1)) 1 (tp_o3 pd len q).1) 1 (tp_oa pd len q)) (tp_o3 pd len q).2
theorem tp_o1_le {pd : Nat → Int32} {len : Nat} {q : Nat × Bool} (h : q.1 ≤ len) : (tp_o1 pd len q).1 ≤ len := by
  unfold tp_o1
  split
  · exact h
  · rename_i hh
    show q.1 + 1 ≤ len
    by_cases hl : q.1 < len
    · omega
    · exfalso
      apply hh
      rw [show tp_cur pd len q.1 = 0 from if_neg hl, show tp_let 0 = false from by decide]
      simp
theorem tp_o2_le {pd : Nat → Int32} {len : Nat} {q : Nat × Bool} (h : q.1 ≤ len) : (tp_o2 pd len q).1 ≤ len := by
  unfold tp_o2
  split
  · rename_i hh
    simp only [tp_ob, tp_next, Bool.and_eq_true, decide_eq_true_eq] at hh
    show (tp_o1 pd len q).1 + 1 ≤ len
    omega
  · exact tp_o1_le h
theorem tp_o3_le {pd : Nat → Int32} {len : Nat} {q : Nat × Bool} (h : q.1 ≤ len) : (tp_o3 pd len q).2.1 ≤ len := by
  unfold tp_o3
  split
  · exact tp_take_le (tp_o2_le h) (by decide)
  · exact tp_num_le (tp_o2_le h)
theorem tp_tail_le {pd : Nat → Int32} {len : Nat} {c : Int32} {to : Nat → Int32} {q : Nat × Bool} (h : q.1 ≤ len) : (tp_tail pd len c to q).2.1 ≤ len := by
  have hb : ∀ {s : Int32} {q : Nat × Bool}, qa_in 0 s s = false → q.1 ≤ len → (tp_beh pd len s q).2.1 ≤ len := fun h0 hq => tp_beh_le hq h0
  have ht : ∀ {s1 s2 : Int32} {q : Nat × Bool}, qa_in 0 s1 s2 = false → q.1 ≤ len → (tp_take pd len s1 s2 q).1 ≤ len := fun h0 hq => tp_take_le hq h0
  unfold tp_tail
  split
  · exact hb (by decide) (hb (by decide) (hb (by decide) h))
  split
  · exact hb (by decide) (hb (by decide) h)
  split
  · exact hb (by decide) h
  split
  · exact hb (by decide) (ht (by decide) (ht (by decide) h))
  split
  · exact ht (by decide) (ht (by decide) (ht (by decide) h))
  · exact h
theorem tp_ord_le {pd : Nat → Int32} {len : Nat} {to : Nat → Int32} {q : Nat × Bool} (h : q.1 ≤ len) : (tp_ord pd len to q).2.1 ≤ len := tp_tail_le (tp_o3_le h)
