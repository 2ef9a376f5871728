/-! going through the pad -/
theorem tp_o1_ge {pd : Nat → Int32} {len : Nat} {q : Nat × Bool} : q.1 ≤ (tp_o1 pd len q).1 := by
  unfold tp_o1
  split
  · exact Nat.le_refl _
  · exact Nat.le_succ _
theorem tp_o2_ge {pd : Nat → Int32} {len : Nat} {q : Nat × Bool} : q.1 ≤ (tp_o2 pd len q).1 := by
  unfold tp_o2
  split
  · exact Nat.le_trans tp_o1_ge (Nat.le_succ _)
  · exact tp_o1_ge
theorem tp_o3_ge {pd : Nat → Int32} {len : Nat} {q : Nat × Bool} : q.1 ≤ (tp_o3 pd len q).2.1 := by
  unfold tp_o3
  split
  · exact Nat.le_trans tp_o2_ge tp_take_ge
  · exact Nat.le_trans tp_o2_ge tp_num_ge
theorem tp_tail_ge {pd : Nat → Int32} {len : Nat} {c : Int32} {to : Nat → Int32} {q : Nat × Bool} : q.1 ≤ (tp_tail pd len c to q).2.1 := by
  unfold tp_tail
  split
  · exact Nat.le_trans tp_beh_ge (Nat.le_trans tp_beh_ge tp_beh_ge)
  split
  · exact Nat.le_trans tp_beh_ge tp_beh_ge
  split
  · exact tp_beh_ge
  split
  · exact Nat.le_trans tp_take_ge (Nat.le_trans tp_take_ge tp_beh_ge)
  split
  · exact Nat.le_trans tp_take_ge (Nat.le_trans tp_take_ge tp_take_ge)
  · exact Nat.le_refl _
theorem tp_ord_ge {pd : Nat → Int32} {len : Nat} {to : Nat → Int32} {q : Nat × Bool} : q.1 ≤ (tp_ord pd len to q).2.1 := Nat.le_trans tp_o3_ge tp_tail_ge
def tp_more (len : Nat) (q : Nat × Bool) : Bool := !q.2 && decide (q.1 < len)
def tp_sep (pd : Nat → Int32) (len : Nat) (q : Nat × Bool) : Nat × Bool := tp_take pd len 59 59 q
def tp_go (pd : Nat → Int32) (len : Nat) : Nat → (Nat → Int32) → Nat × Bool → (Nat → Int32) × (Nat × Bool)
  | 0, to, q => (to, q)
  | f + 1, to, q => if tp_more len (tp_ord pd len to q).2 = true then (if (tp_sep pd len (tp_ord pd len to q).2).2 = true then ((tp_ord pd len to q).1, tp_sep pd len (tp_ord pd len to q).2) else tp_go pd len f (tp_ord pd len to q).1 (tp_sep pd len (tp_ord pd len to q).2)) else tp_ord pd len to q
def tp_goM (pd : Nat → Int32) (len : Nat) (mo : Bool) (f : Nat) (to : Nat → Int32) (q : Nat × Bool) : (Nat → Int32) × (Nat × Bool) := if mo = true then tp_go pd len f to q else (to, q)
theorem tp_go_n {pd : Nat → Int32} {len f : Nat} {to : Nat → Int32} {q : Nat × Bool} (h : tp_more len (tp_ord pd len to q).2 = false) : tp_go pd len (f + 1) to q = tp_ord pd len to q := by
  unfold tp_go
  rw [if_neg (by rw [h]; decide)]
theorem tp_go_s {pd : Nat → Int32} {len f : Nat} {to : Nat → Int32} {q : Nat × Bool} (h : tp_more len (tp_ord pd len to q).2 = true) : tp_go pd len (f + 1) to q = tp_goM pd len (!(tp_sep pd len (tp_ord pd len to q).2).2) f (tp_ord pd len to q).1 (tp_sep pd len (tp_ord pd len to q).2) := by
  unfold tp_goM
  rw [show tp_go pd len (f + 1) to q = _ from if_pos h]
  cases hs : (tp_sep pd len (tp_ord pd len to q).2).2 <;> simp
theorem tp_sep_f {pd : Nat → Int32} {len : Nat} {q : Nat × Bool} (h : (tp_sep pd len q).2 = false) : (tp_sep pd len q).1 = q.1 + 1 := by
  unfold tp_sep tp_take at h ⊢
  split at h
  · cases h
  · rename_i hh
    rw [if_neg hh]
def tp_row (a R : Nat → Int32) : Int32 × (Nat → Int32) := op_does a (R 0) (R 1) (R 2) (R 3) (R 4)
def tp_do (pd : Nat → Int32) (len : Nat) : Nat → (Nat → Int32) → (Nat → Int32) → Nat × Bool → Nat × (Nat → Int32)
  | 0, a, _, _ => (0, a)
  | f + 1, a, to, q => if 0 ≤ (tp_row a (tp_ord pd len to q).1).1 then (if (tp_more len (tp_ord pd len to q).2 && !(tp_sep pd len (tp_ord pd len to q).2).2) = true then (1 + (tp_do pd len f (tp_row a (tp_ord pd len to q).1).2 (tp_ord pd len to q).1 (tp_sep pd len (tp_ord pd len to q).2)).1, (tp_do pd len f (tp_row a (tp_ord pd len to q).1).2 (tp_ord pd len to q).1 (tp_sep pd len (tp_ord pd len to q).2)).2) else (1, (tp_row a (tp_ord pd len to q).1).2)) else (0, (tp_row a (tp_ord pd len to q).1).2)
def tp_doM (pd : Nat → Int32) (len : Nat) (mo : Bool) (f : Nat) (a to : Nat → Int32) (q : Nat × Bool) : Nat × (Nat → Int32) := if mo = true then tp_do pd len f a to q else (0, a)
theorem tp_do_n {pd : Nat → Int32} {len f : Nat} {a to : Nat → Int32} {q : Nat × Bool} (h : ¬ 0 ≤ (tp_row a (tp_ord pd len to q).1).1) : tp_do pd len (f + 1) a to q = (0, (tp_row a (tp_ord pd len to q).1).2) := by
  unfold tp_do
  rw [if_neg h]
theorem tp_do_e {pd : Nat → Int32} {len f : Nat} {a to : Nat → Int32} {q : Nat × Bool} (h : 0 ≤ (tp_row a (tp_ord pd len to q).1).1) (hm : tp_more len (tp_ord pd len to q).2 = false) : tp_do pd len (f + 1) a to q = (1, (tp_row a (tp_ord pd len to q).1).2) := by
  unfold tp_do
  rw [if_pos h, hm]
  rfl
theorem tp_do_m {pd : Nat → Int32} {len f : Nat} {a to : Nat → Int32} {q : Nat × Bool} (h : 0 ≤ (tp_row a (tp_ord pd len to q).1).1) (hm : tp_more len (tp_ord pd len to q).2 = true) : tp_do pd len (f + 1) a to q = (1 + (tp_doM pd len (!(tp_sep pd len (tp_ord pd len to q).2).2) f (tp_row a (tp_ord pd len to q).1).2 (tp_ord pd len to q).1 (tp_sep pd len (tp_ord pd len to q).2)).1, (tp_doM pd len (!(tp_sep pd len (tp_ord pd len to q).2).2) f (tp_row a (tp_ord pd len to q).1).2 (tp_ord pd len to q).1 (tp_sep pd len (tp_ord pd len to q).2)).2) := by
  rw [show tp_do pd len (f + 1) a to q = _ from if_pos h, hm]
  unfold tp_doM
  cases hs : (tp_sep pd len (tp_ord pd len to q).2).2 <;> simp
/-! what was wrong stays wrong -/
theorem tp_take_w {pd : Nat → Int32} {len : Nat} {s t : Int32} {q : Nat × Bool} (h : (tp_take pd len s t q).2 = false) : q.2 = false := by
  unfold tp_take at h
  split at h
  · cases h
  · rename_i hh
    cases hq : q.2 with
    | false => rfl
    | true => exact absurd (by rw [hq]; rfl) hh
theorem tp_numL_w {pd : Nat → Int32} {len : Nat} : ∀ (k : Nat) (v : Int32) (q : Nat × Bool), (tp_numL pd len k v q).2.2 = false → q.2 = false
  | 0, _, _, h => h
  | k + 1, v, q, h => by
    unfold tp_numL at h
    split at h
    · exact tp_take_w (tp_numL_w k _ _ h)
    · exact h
theorem tp_num_w {pd : Nat → Int32} {len : Nat} {q : Nat × Bool} (h : (tp_num pd len q).2.2 = false) : q.2 = false := tp_take_w (tp_numL_w _ _ _ h)
theorem tp_beh_w {pd : Nat → Int32} {len : Nat} {s : Int32} {q : Nat × Bool} (h : (tp_beh pd len s q).2.2 = false) : q.2 = false := tp_take_w (tp_num_w h)
theorem tp_tail_w {pd : Nat → Int32} {len : Nat} {c : Int32} {to : Nat → Int32} {q : Nat × Bool} (h : (tp_tail pd len c to q).2.2 = false) : q.2 = false := by
  unfold tp_tail at h
  split at h
  · exact tp_beh_w (tp_beh_w (tp_beh_w h))
  split at h
  · exact tp_beh_w (tp_beh_w h)
  split at h
  · exact tp_beh_w h
  split at h
  · exact tp_take_w (tp_take_w (tp_beh_w h))
  split at h
  · exact tp_take_w (tp_take_w (tp_take_w h))
  · exact h
theorem tp_ord_w {pd : Nat → Int32} {len : Nat} {to : Nat → Int32} {q : Nat × Bool} (h : (tp_ord pd len to q).2.2 = false) : q.2 = false ∧ tp_let (tp_cur pd len q.1) = true := by
  have h3 := tp_tail_w h
  have h2 : (tp_o2 pd len q).2 = false := by
    unfold tp_o3 at h3
    split at h3
    · exact tp_take_w h3
    · exact tp_num_w h3
  have h1 : (tp_o1 pd len q).2 = false := by
    unfold tp_o2 at h2
    split at h2
    · exact h2
    · exact h2
  unfold tp_o1 at h1
  split at h1
  · cases h1
  · rename_i hh
    simp only [Bool.or_eq_true, Bool.not_eq_true', not_or] at hh
    exact ⟨Bool.not_eq_true _ |>.mp hh.1, Bool.not_eq_false _ |>.mp hh.2⟩
theorem tp_go_w {pd : Nat → Int32} {len : Nat} : ∀ (f : Nat) (to : Nat → Int32) (q : Nat × Bool), (tp_go pd len (f + 1) to q).2.2 = false → (tp_ord pd len to q).2.2 = false := by
  intro f to q h
  unfold tp_go at h
  split at h
  · rename_i hm
    simp only [tp_more, Bool.and_eq_true, Bool.not_eq_true'] at hm
    exact hm.1
  · exact h
theorem tp_tail_0 {pd : Nat → Int32} {len : Nat} {c : Int32} {to : Nat → Int32} {q : Nat × Bool} : (tp_tail pd len c to q).1 0 = to 0 ∧ (tp_tail pd len c to q).1 1 = to 1 := by
  unfold tp_tail
  repeat' split
  all_goals exact ⟨by simp [upd], by simp [upd]⟩
theorem tp_ord_0 {pd : Nat → Int32} {len : Nat} {to : Nat → Int32} {q : Nat × Bool} : (tp_ord pd len to q).1 0 = tp_cur pd len q.1 ∧ (tp_ord pd len to q).1 1 = tp_oa pd len q := by
  unfold tp_ord
  obtain ⟨h0, h1⟩ := tp_tail_0 (pd := pd) (len := len) (c := tp_cur pd len q.1) (to := upd (upd (upd to 0 (tp_cur pd len q.1)) 1 (tp_o3 pd len q).1) 1 (tp_oa pd len q)) (q := (tp_o3 pd len q).2)
  exact ⟨h0.trans (by simp [upd]), h1.trans (by simp [upd])⟩
theorem tp_let_c {c : Int32} (h : tp_let c = true) : c = 113 ∨ c = 99 ∨ c = 111 ∨ c = 103 ∨ c = 108 ∨ c = 110 ∨ c = 100 := by
  simpa [tp_let, or_assoc] using h
/-! what was told before does not matter -/
theorem tp_tail_i {pd : Nat → Int32} {len : Nat} {c : Int32} {to to' : Nat → Int32} {q : Nat × Bool} : (tp_tail pd len c to q).2 = (tp_tail pd len c to' q).2 := by
  unfold tp_tail
  repeat' split
  all_goals rfl
theorem tp_ord_i {pd : Nat → Int32} {len : Nat} {to to' : Nat → Int32} {q : Nat × Bool} : (tp_ord pd len to q).2 = (tp_ord pd len to' q).2 := tp_tail_i
theorem tp_row_i {a : Nat → Int32} {pd : Nat → Int32} {len : Nat} {to to' : Nat → Int32} {q : Nat × Bool} : tp_row a (tp_ord pd len to q).1 = tp_row a (tp_ord pd len to' q).1 := by
  unfold tp_row
  rw [tp_ord_0.1, tp_ord_0.2, tp_ord_0.1, tp_ord_0.2]
  unfold op_does tp_ord tp_tail
  by_cases h1 : tp_cur pd len q.1 = 113
  · simp [h1, upd]
  by_cases h2 : tp_cur pd len q.1 = 99
  · simp [h2, upd]
  by_cases h3 : tp_cur pd len q.1 = 111
  · simp [h3, upd]
  by_cases h4 : tp_cur pd len q.1 = 103
  · simp [h4, upd]
  by_cases h5 : tp_cur pd len q.1 = 108
  · simp [h5, upd]
  · simp [h1, h2, h3, h4, h5]
theorem tp_go_i {pd : Nat → Int32} {len : Nat} : ∀ (f : Nat) (to to' : Nat → Int32) (q : Nat × Bool), (tp_go pd len f to q).2 = (tp_go pd len f to' q).2
  | 0, _, _, _ => rfl
  | f + 1, to, to', q => by
    unfold tp_go
    rw [tp_ord_i (to := to) (to' := to')]
    split
    · split
      · rfl
      · exact tp_go_i f _ _ _
    · exact tp_ord_i
theorem tp_do_i {pd : Nat → Int32} {len : Nat} : ∀ (f : Nat) (a to to' : Nat → Int32) (q : Nat × Bool), tp_do pd len f a to q = tp_do pd len f a to' q
  | 0, _, _, _, _ => rfl
  | f + 1, a, to, to', q => by
    unfold tp_do
    rw [tp_row_i (to := to) (to' := to'), tp_ord_i (to := to) (to' := to'), tp_do_i f _ (tp_ord pd len to q).1 (tp_ord pd len to' q).1]
/-- the pad read: where it ended, whether something was wrong -/
def tp_read (pd : Nat → Int32) (len : Nat) : Nat × Bool := (tp_go pd len 81 (fun _ => 0) (0, false)).2
/-- the pad done: how many, and the state -/
def tp_done (pd : Nat → Int32) (len : Nat) (a : Nat → Int32) : Nat × (Nat → Int32) := tp_do pd len 81 a (fun _ => 0) (0, false)
theorem wf_row {a R : Nat → Int32} (h : wf a) : wf (tp_row a R).2 := wf_does h
theorem wf_do {pd : Nat → Int32} {len : Nat} : ∀ (f : Nat) (a to : Nat → Int32) (q : Nat × Bool), wf a → wf (tp_do pd len f a to q).2
  | 0, _, _, _, h => h
  | f + 1, a, to, q, h => by
    unfold tp_do
    split
    · split
      · exact wf_do f _ _ _ (wf_row h)
      · exact wf_row h
    · exact wf_row h
section ZZ
variable {D : va_G} {b0 : Nat} {p : Program} {l : Launch} {e : Env} {R : Room} {s : State} {m : MethodId} {args : Array Value} {below : List Frame} {meth : Method} {c : Code} {Q : State → Prop} {cs ss : Nat} {h : zz_H} {lo : List (Nat × Value)} {nL : Nat} {pc pcJ : Nat} {st st0 : List Value}
theorem zz_joinJ (E : Int32) (st : List Value) (k : ∀ z : Int32, z = E → zz_V D b0 nL p l e R s m args below meth c Q cs ss h lo pcJ (.int z :: st)) (kk : (∀ z : Int32, z = E → zz_V D b0 nL p l e R s m args below meth c Q cs ss h lo pcJ (.int z :: st)) → zz_V D b0 nL p l e R s m args below meth c Q cs ss h lo pc st0) : zz_V D b0 nL p l e R s m args below meth c Q cs ss h lo pc st0 := kk k
end ZZ
