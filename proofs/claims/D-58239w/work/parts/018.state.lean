/-! the twin's record of former states -/
/-- the state a is put behind the kp states of hi; six at most are kept -/
def qa_rec (hi : Nat → Int32) (kp : Nat) (a hi' : Nat → Int32) (kp' : Nat) : Prop :=
  (kp = 6 ∧ kp' = 6 ∧ (∀ j, j < 1620 → hi' j = hi (j + 324)) ∧ ∀ k, k < 324 → hi' (1620 + k) = a k) ∨
  (kp < 6 ∧ kp' = kp + 1 ∧ (∀ j, j < 324 * kp → hi' j = hi j) ∧ ∀ k, k < 324 → hi' (324 * kp + k) = a k)
/-- recorded, or not -/
def qa_rc (b : Bool) (hi : Nat → Int32) (kp : Nat) (a hi' : Nat → Int32) (kp' : Nat) : Prop := if b = true then qa_rec hi kp a hi' kp' else hi' = hi ∧ kp' = kp
theorem qa_rc_t {hi : Nat → Int32} {kp : Nat} {a hi' : Nat → Int32} {kp' : Nat} {b : Bool} (hb : b = true) (h : qa_rec hi kp a hi' kp') : qa_rc b hi kp a hi' kp' := by unfold qa_rc; rw [if_pos hb]; exact h
theorem qa_rc_f {hi : Nat → Int32} {kp : Nat} {a : Nat → Int32} {b : Bool} (hb : b = false) : qa_rc b hi kp a hi kp := by unfold qa_rc; rw [if_neg (by rw [hb]; decide)]; exact ⟨rfl, rfl⟩
theorem qa_rec.of {hi : Nat → Int32} {kp : Nat} {a a2 hi' : Nat → Int32} {kp' : Nat} (h : qa_rec hi kp a2 hi' kp') (e : ∀ k, k < 324 → a2 k = a k) : qa_rec hi kp a hi' kp' := by
  rcases h with ⟨h1, h2, h3, h4⟩ | ⟨h1, h2, h3, h4⟩
  · exact Or.inl ⟨h1, h2, h3, fun k hk => (h4 k hk).trans (e k hk)⟩
  · exact Or.inr ⟨h1, h2, h3, fun k hk => (h4 k hk).trans (e k hk)⟩
/-- the twin, apart from its scratch -/
def tw_S (D : va_G) (h : zz_H) (x : Nat) (ad : Nat → Nat) (a hi : Nat → Int32) (kp : Nat) (sl sv pd : Nat → Int32) (len : Nat) : Prop := ∃ (ah so : Nat → Int32) (pos wr : Int32) (to : Nat → Int32), tw_X D h x ad a ah hi kp sl sv pd len so pos wr to
theorem tw_X.S {D : va_G} {h : zz_H} {x : Nat} {ad : Nat → Nat} {a ah hi : Nat → Int32} {kp : Nat} {sl sv pd : Nat → Int32} {len : Nat} {so : Nat → Int32} {pos wr : Int32} {to : Nat → Int32} (H : tw_X D h x ad a ah hi kp sl sv pd len so pos wr to) : tw_S D h x ad a hi kp sl sv pd len := ⟨ah, so, pos, wr, to, H⟩
/-! the changes that lay one number: done or not, the answer, the state -/
def qa_setok (v0 v1 : Int32) : Bool := if v0 = 0 then qa_in v1 0 9 else if v0 = 1 then qa_in v1 1 99 else if v0 = 2 then qa_in v1 (-20) 0 else if v0 = 3 then qa_in v1 0 30 else false
theorem qa_setok_ix {v0 v1 : Int32} (h : qa_setok v0 v1 = true) : ∃ k : Nat, k < 4 ∧ v0 = nI k := by
  unfold qa_setok at h
  split at h
  · exact ⟨0, by decide, ‹_›⟩
  split at h
  · exact ⟨1, by decide, ‹_›⟩
  split at h
  · exact ⟨2, by decide, ‹_›⟩
  split at h
  · exact ⟨3, by decide, ‹_›⟩
  · cases h
def op_set (a : Nat → Int32) (v0 v1 : Int32) : Bool × Int32 × (Nat → Int32) := if qa_setok v0 v1 = true then (true, a v0.toNatClampNeg + 100, upd a v0.toNatClampNeg v1) else (false, -2, a)
def qa_roofs (a : Nat → Int32) (nb : Nat) : Nat := qa_cnt (fun b => decide (a (12 + 10 * b + 4) = 1)) nb
def qa_flip (a : Nat → Int32) (b : Nat) : Int32 := if a (12 + 10 * b + 4) = 1 then 0 else 1
def op_shelter (a : Nat → Int32) (v0 : Int32) : Bool × Int32 × (Nat → Int32) :=
  if qa_in v0 0 (a 5 - 1) = false then (false, -1, a) else if qa_here a v0.toNatClampNeg = false then (false, -5, a) else
  if ¬ a (12 + 10 * v0.toNatClampNeg + 4) = 1 ∧ qa_roofs a (a 5).toNatClampNeg = 4 then (false, -4, a) else (true, qa_flip a v0.toNatClampNeg, upd a (12 + 10 * v0.toNatClampNeg + 4) (qa_flip a v0.toNatClampNeg))
def qa_tb1 (a : Nat → Int32) (o : Nat) : Nat → Int32 := upd a (252 + 6 * o + 3) 0
def op_takeBack (a : Nat → Int32) (v0 : Int32) : Bool × Int32 × (Nat → Int32) :=
  if qa_in v0 0 (a 6 - 1) = false then (false, -1, a) else if ¬ a (252 + 6 * v0.toNatClampNeg + 3) = 1 then (false, -5, a) else
  (true, a (252 + 6 * v0.toNatClampNeg + 4), upd (upd (qa_tb1 a v0.toNatClampNeg) (252 + 6 * v0.toNatClampNeg + 4) (-6)) (12 + 10 * (a (252 + 6 * v0.toNatClampNeg + 4)).toNatClampNeg + 7) (-6))
def op_limits (a : Nat → Int32) (v0 v1 v2 v3 : Int32) : Bool × Int32 × (Nat → Int32) :=
  if qa_in v0 0 2 = false then (false, -1, a) else if qa_in v1 100 30000 = false then (false, -2, a) else if qa_in v2 100 30000 = false then (false, -2, a) else if qa_in v3 100 30000 = false then (false, -2, a) else
  (true, 1, upd (upd (upd a (312 + 4 * v0.toNatClampNeg + 0) v1) (312 + 4 * v0.toNatClampNeg + 1) v2) (312 + 4 * v0.toNatClampNeg + 2) v3)
def qa_unl (a : Nat → Int32) (b : Nat) : Nat → Int32 := upd (upd a (12 + 10 * b + 8) (-6)) (12 + 10 * b + 4) 0
def op_unload (a : Nat → Int32) (v0 : Int32) : Bool × Int32 × (Nat → Int32) :=
  if qa_in v0 0 (a 5 - 1) = false then (false, -1, a) else if ¬ a (12 + 10 * v0.toNatClampNeg + 4) = 2 then (false, -5, a) else
  (true, qa_load (qa_unl a v0.toNatClampNeg) (a 5).toNatClampNeg (a (12 + 10 * v0.toNatClampNeg + 8) / 5) 5, qa_unl a v0.toNatClampNeg)
