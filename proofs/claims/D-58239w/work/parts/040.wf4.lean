/-! every change keeps it, the rest -/
theorem bnf {b : Bool} (h : ¬ b = false) : b = true := by cases b <;> simp_all
theorem qa_srts_ot {a : Nat → Int32} {o j : Nat} {x y z : Int32} : ∀ k : Nat, (j < 252 + 6 * o ∨ 252 + 6 * o + k ≤ j) → qa_srts a o x y z k j = a j
  | 0, _ => rfl
  | k + 1, h => by unfold qa_srts; rw [up_n (by omega)]; exact qa_srts_ot k (by omega)
theorem wf_orders {a : Nat → Int32} {x y z : Int32} (h : wf a) : wf (op_orders a x y z).2 := by
  obtain ⟨nb, no, h⟩ := h
  unfold op_orders
  split
  · exact ⟨nb, no, h⟩
  split
  · exact ⟨nb, no, h⟩
  split
  · exact ⟨nb, no, h⟩
  split
  · exact ⟨nb, no, h⟩
  rename_i q
  have e6 := h.2.2.2.1
  have hn := h.2.1
  have hno : no < 10 := by
    have h6 : no ≠ 10 := fun qq => q (by rw [e6, qq]; rfl)
    omega
  have en : (a 6).toNatClampNeg = no := by rw [e6]; exact nI_clamp (by omega)
  rw [en]
  refine ⟨nb, no + 1, h.newo hno ?_ ?_ ?_⟩
  · show upd _ _ _ _ = _
    rw [up_n (by omega), up_n (by omega), up_n (by omega), qa_srts_ot 3 (by omega), up_s]
  · intro j h6 hj
    show upd _ _ _ _ = _
    rw [up_n (by omega), up_n (by omega), up_n (by omega), qa_srts_ot 3 (by omega), up_n h6]
  · have e3 : upd (upd (upd (qa_srts (upd a 6 (a 6 + 1)) no x y z 3) (252 + 6 * no + 3) 0) (252 + 6 * no + 4) (-6)) (252 + 6 * no + 5) (-6) (252 + 6 * no + 3) = 0 := by rw [up_n (by omega), up_n (by omega), up_s]
    exact ⟨Or.inl e3, fun q => by
      have q : upd (upd (upd (qa_srts (upd a 6 (a 6 + 1)) no x y z 3) (252 + 6 * no + 3) 0) (252 + 6 * no + 4) (-6)) (252 + 6 * no + 5) (-6) (252 + 6 * no + 3) = 1 := q
      rw [e3] at q
      exact absurd q (by decide)⟩
theorem wf_gives {a : Nat → Int32} {v0 v1 : Int32} (h : wf a) : wf (op_gives a v0 v1).2 := by
  obtain ⟨nb, no, h⟩ := h
  unfold op_gives
  split
  · exact ⟨nb, no, h⟩
  split
  · exact ⟨nb, no, h⟩
  split
  · exact ⟨nb, no, h⟩
  rename_i q0 q1 q2
  have e5 := h.2.2.1
  have e6 := h.2.2.2.1
  have hnb := h.1
  have hno := h.2.1
  obtain ⟨o, ho, rfl⟩ := qa_ix (n := no) (by omega) (by rw [← e6]; exact bnf q0)
  obtain ⟨b, hb, rfl⟩ := qa_ix (n := nb) (by omega) (by rw [← e5]; exact bnf q1)
  unfold qa_give
  rw [nI_clamp (by omega), nI_clamp (by omega)]
  have s1 : wfn (upd (upd a (252 + 6 * o + 3) 1) (252 + 6 * o + 4) (nI b)) nb no := by
    refine h.ord ho (fun j hj => by rw [up_n (by omega), up_n (by omega)]) ?_
    exact ⟨Or.inr (Or.inl (by show upd _ _ _ _ = _; rw [up_n (by omega), up_s])), fun _ => ⟨b, hb, by show upd _ _ _ _ = _; rw [up_s]⟩⟩
  exact ⟨nb, no, s1.fld hb (by decide) (by decide) ((s1.2.2.2.2.2.1 b hb).u7 (Or.inr ⟨o, ho, rfl⟩))⟩
theorem qa_find_n {a : Nat → Int32} {v : Int32} : ∀ n : Nat, n ≤ 24 → qa_find a v n = -6 → ∀ b : Nat, b < n → a (12 + 10 * b + 8) ≠ v
  | 0, _, _, b, hb => absurd hb (Nat.not_lt_zero b)
  | n + 1, hn, h, b, hb => by
    unfold qa_find at h
    split at h
    · exact absurd h (qa_n6 (by omega))
    · rename_i hne
      by_cases hbn : b = n
      · rw [hbn]; exact hne
      · exact qa_find_n n (by omega) h b (by omega)
theorem wf_loads {a : Nat → Int32} {v0 v1 v2 : Int32} (h : wf a) : wf (op_loads a v0 v1 v2).2 := by
  obtain ⟨nb, no, h⟩ := h
  unfold op_loads
  split
  · exact ⟨nb, no, h⟩
  split
  · exact ⟨nb, no, h⟩
  split
  · exact ⟨nb, no, h⟩
  split
  · exact ⟨nb, no, h⟩
  split
  · exact ⟨nb, no, h⟩
  rename_i q0 q1 q2 q3 q4
  have e5 := h.2.2.1
  have hnb := h.1
  obtain ⟨b, hb, rfl⟩ := qa_ix (n := nb) (by omega) (by rw [← e5]; exact bnf q0)
  obtain ⟨l, hl, rfl⟩ := qa_ixk 2 (by decide) (bnf q1)
  obtain ⟨p, hp, rfl⟩ := qa_ixk 4 (by decide) (bnf q2)
  rw [e5, nI_clamp (by omega)] at q4
  have q4 := Decidable.not_not.mp q4
  have es : 5 * nI l + nI p = nI (5 * l + p) := zz_ixm 5 l p
  rw [es] at q4
  refine ⟨nb, no, h.f48 (b := b) (w := 2) hb (by unfold qa_put; rw [nI_clamp (by omega), es]; rfl) (by decide) (Or.inl ⟨rfl, 5 * l + p, by omega, rfl⟩) (Or.inr (fun d hd _ => qa_find_n nb hnb q4 d hd))⟩
theorem wfn.del {a : Nat → Int32} {nb no b : Nat} (h : wfn a nb no) (hb : b < nb) : wfn (qa_del a b) nb no := by
  have hnb := h.1
  have hno := h.2.1
  have s1 : wfn (qa_del1 a b) nb no := h.f48 (w := 3) hb rfl (by decide) (Or.inr ⟨by decide, rfl⟩) (Or.inl rfl)
  have s2 : wfn (qa_del2 a b) nb no := s1.s1 (by decide) (by decide)
  unfold qa_del
  split
  · exact s2
  · rename_i hn
    obtain ⟨o, ho, eo⟩ := ((h.2.2.2.2.2.1 b hb).2.2.2.2.2.1).resolve_left hn
    have eo : a (12 + 10 * b + 7) = nI o := eo
    rw [eo, nI_clamp (by omega)]
    refine s2.ord ho (fun j hj => by rw [up_n (by omega), up_n (by omega)]) ?_
    have e3 : upd (upd (qa_del2 a b) (252 + 6 * o + 3) 2) (252 + 6 * o + 5) (qa_inv a b) (252 + 6 * o + 3) = 2 := by rw [up_n (by omega), up_s]
    exact ⟨Or.inr (Or.inr e3), fun q => by
      have q : upd (upd (qa_del2 a b) (252 + 6 * o + 3) 2) (252 + 6 * o + 5) (qa_inv a b) (252 + 6 * o + 3) = 1 := q
      rw [e3] at q
      exact absurd q (by decide)⟩
theorem wfn.lv {a : Nat → Int32} {nb no : Nat} (l : Int32) (h : wfn a nb no) : ∀ p : Nat, wfn (qa_lv a nb l p).2 nb no
  | 0 => h
  | p + 1 => by
    have ih := wfn.lv l h p
    unfold qa_lv
    split
    · exact ih
    · rename_i hn
      obtain ⟨b, hb, eb, -⟩ := qa_find_i hn
      show wfn (qa_del _ _) nb no
      rw [eb, nI_clamp (by have := h.1; omega)]
      exact ih.del hb
theorem wf_leaves {a : Nat → Int32} {v0 : Int32} (h : wf a) : wf (op_leaves a v0).2 := by
  obtain ⟨nb, no, h⟩ := h
  unfold op_leaves
  split
  · exact ⟨nb, no, h⟩
  split
  · exact ⟨nb, no, h⟩
  rename_i q0 q1
  obtain ⟨l, hl, rfl⟩ := qa_ixk 2 (by decide) (bnf q0)
  rw [h.2.2.1, nI_clamp (by have := h.1; omega), nI_clamp (by omega)]
  have s := h.lv (nI l) 5
  refine ⟨nb, no, s.sc (fun j hj hj2 => ?_) ?_ ?_ (s.2.2.2.2.1.cg (fun k hk => ?_))⟩
  · unfold qa_left
    show upd _ _ _ _ = _
    rw [up_n (by omega), up_n (by omega)]
  · show upd _ _ _ _ = _
    rw [up_n (by omega), up_n (by omega)]
  · show upd _ _ _ _ = _
    rw [up_n (by omega), up_n (by omega)]
  · show upd _ _ _ _ = _
    rw [up_n (by omega), up_n (by omega)]
theorem wfn.nt {a : Nat → Int32} {nb no : Nat} (h : wfn a nb no) : ∀ n : Nat, n ≤ nb → wfn (qa_nt a n).2 nb no
  | 0, _ => h
  | n + 1, hn => by
    have ih := wfn.nt h n (by omega)
    show wfn (qa_n2 (qa_nt a n).2 n) nb no
    generalize (qa_nt a n).2 = c at ih
    have s1 : wfn (qa_n1 c n) nb no := by
      unfold qa_n1
      refine ih.fld (by omega) (by decide) (by decide) ((ih.2.2.2.2.2.1 n (by omega)).u6 ?_)
      split
      · exact Or.inr rfl
      · exact (ih.2.2.2.2.2.1 n (by omega)).2.2.2.2.1
    unfold qa_n2
    obtain ⟨t, t1, t2⟩ := (s1.2.2.2.2.2.1 n (by omega)).2.2.2.1
    have t2 : qa_n1 c n (12 + 10 * n + 5) = nI t := t2
    have hv : ∃ t' : Nat, t' ≤ 3 ∧ qa_n1 c n (12 + 10 * n + 5) - (if qa_dry (qa_n1 c n) n = true then 1 else 0) = nI t' := by
      rw [t2]
      split
      · rename_i hd
        simp only [qa_dry, Bool.and_eq_true, Bool.not_eq_true', decide_eq_false_iff_not] at hd
        have h0 := hd.1.1
        rw [t2] at h0
        have ht : 1 ≤ t := Nat.pos_of_ne_zero (fun q => h0 (by rw [q]; decide))
        exact ⟨t - 1, by omega, pk_sub (b := 1) ht⟩
      · exact ⟨t, t1, Int32.sub_zero _⟩
    obtain ⟨t', ht', et'⟩ := hv
    rw [et']
    exact s1.fld (by omega) (by decide) (by decide) ((s1.2.2.2.2.2.1 n (by omega)).u5 ht')
theorem wf_nights {a : Nat → Int32} {v0 : Int32} (h : wf a) : wf (op_nights a v0).2 := by
  obtain ⟨nb, no, h⟩ := h
  unfold op_nights
  split
  · exact ⟨nb, no, h⟩
  split
  · exact ⟨nb, no, h⟩
  rename_i q0 q1
  rw [h.2.2.1, nI_clamp (by have := h.1; omega)]
  have s0 : wfn (upd a 7 (if v0 ≤ a 2 then 1 else 0)) nb no := by
    refine h.sc (fun j hj _ => up_n (by omega)) (up_n (by decide)) (up_n (by decide)) ?_
    obtain ⟨g0, g1, g3, g4, g7⟩ := h.2.2.2.2.1
    refine ⟨by rw [up_n (by decide)]; exact g0, by rw [up_n (by decide)]; exact g1, by rw [up_n (by decide)]; exact g3, by rw [up_n (by decide)]; exact g4, ?_⟩
    rw [up_s]
    split
    · exact Or.inr rfl
    · exact Or.inl rfl
  have s := s0.nt nb (Nat.le_refl _)
  have e4 : (qa_nt (upd a 7 (if v0 ≤ a 2 then 1 else 0)) nb).2 4 = a 4 := by rw [qa_nt_o (by decide), up_n (by decide)]
  show wf (upd (qa_nt (upd a 7 (if v0 ≤ a 2 then 1 else 0)) nb).2 4 _)
  refine ⟨nb, no, s.sc (fun j hj _ => up_n (by omega)) (up_n (by decide)) (up_n (by decide)) ?_⟩
  obtain ⟨g0, g1, g3, g4, g7⟩ := s.2.2.2.2.1
  refine ⟨by rw [up_n (by decide)]; exact g0, by rw [up_n (by decide)]; exact g1, by rw [up_n (by decide)]; exact g3, ?_, by rw [up_n (by decide)]; exact g7⟩
  rw [up_s, e4]
  obtain ⟨k, hk, ek⟩ := h.2.2.2.2.1.2.2.2.1
  rw [ek, nI_1]
  refine ⟨k + 1, ?_, rfl⟩
  have : k ≠ 999 := fun q => q1 (by rw [ek, q]; rfl)
  omega
theorem wf_does {a : Nat → Int32} {c x y z d : Int32} (h : wf a) : wf (op_does a c x y z d).2 := by
  unfold op_does
  split
  · exact wf_quarries h
  split
  · exact wf_cuts h
  split
  · exact wf_orders h
  split
  · exact wf_gives h
  split
  · exact wf_loads h
  split
  · exact wf_nights h
  · exact wf_leaves h
theorem wf_set {a : Nat → Int32} {v0 v1 : Int32} (h : wf a) : wf (op_set a v0 v1).2.2 := by
  obtain ⟨nb, no, h⟩ := h
  unfold op_set
  split
  · rename_i q
    obtain ⟨g0, g1, g3, g4, g7⟩ := h.2.2.2.2.1
    obtain ⟨k, hk, ek⟩ := qa_setok_ix q
    rw [ek, nI_clamp (by omega)]
    show wf (upd a k v1)
    refine ⟨nb, no, h.sc (fun j hj _ => up_n (by omega)) (up_n (by omega)) (up_n (by omega)) ?_⟩
    unfold qa_setok at q
    rw [ek] at q
    refine ⟨?_, ?_, ?_, by rw [up_n (by omega)]; exact g4, by rw [up_n (by omega)]; exact g7⟩
    · by_cases h0 : k = 0
      · subst h0
        rw [up_s]
        obtain ⟨j, hj, ej⟩ := qa_ixk 9 (by decide) (show qa_in v1 0 9 = true from q)
        exact ⟨j, hj, ej⟩
      · rw [up_n (by omega)]; exact g0
    · by_cases h0 : k = 1
      · subst h0
        rw [up_s]
        obtain ⟨j, -, hj, ej⟩ := qa_ixl 1 99 (by decide) (show qa_in v1 1 99 = true from q) (by decide)
        exact ⟨j, hj, ej⟩
      · rw [up_n (by omega)]; exact g1
    · by_cases h0 : k = 3
      · subst h0
        rw [up_s]
        obtain ⟨j, hj, ej⟩ := qa_ixk 30 (by decide) (show qa_in v1 0 30 = true from q)
        exact ⟨j, hj, ej⟩
      · rw [up_n (by omega)]; exact g3
  · exact ⟨nb, no, h⟩
theorem wf_shelter {a : Nat → Int32} {v0 : Int32} (h : wf a) : wf (op_shelter a v0).2.2 := by
  obtain ⟨nb, no, h⟩ := h
  unfold op_shelter
  split
  · exact ⟨nb, no, h⟩
  split
  · exact ⟨nb, no, h⟩
  split
  · exact ⟨nb, no, h⟩
  rename_i q0 q1 q2
  have e5 := h.2.2.1
  have hnb := h.1
  obtain ⟨b, hb, rfl⟩ := qa_ix (n := nb) (by omega) (by rw [← e5]; exact bnf q0)
  rw [nI_clamp (by omega)] at q1 ⊢
  have hv : ∃ w : Nat, w ≤ 4 ∧ w ≠ 2 ∧ qa_flip a b = nI w := by
    unfold qa_flip
    split
    · exact ⟨0, by decide, by decide, rfl⟩
    · exact ⟨1, by decide, by decide, rfl⟩
  obtain ⟨w, w1, w2, ew⟩ := hv
  show wf (upd a (12 + 10 * b + 4) (qa_flip a b))
  rw [ew]
  exact ⟨nb, no, h.fld hb (by decide) (by decide) ((h.2.2.2.2.2.1 b hb).u4 w1 w2 (qa_here_2 (bnf q1)))⟩
theorem wf_takeBack {a : Nat → Int32} {v0 : Int32} (h : wf a) : wf (op_takeBack a v0).2.2 := by
  obtain ⟨nb, no, h⟩ := h
  unfold op_takeBack
  split
  · exact ⟨nb, no, h⟩
  split
  · exact ⟨nb, no, h⟩
  rename_i q0 q1
  have e6 := h.2.2.2.1
  have hno := h.2.1
  have hnb := h.1
  obtain ⟨o, ho, rfl⟩ := qa_ix (n := no) (by omega) (by rw [← e6]; exact bnf q0)
  rw [nI_clamp (by omega)] at q1 ⊢
  have q1 := Decidable.not_not.mp q1
  obtain ⟨b, hb, eb⟩ := (h.2.2.2.2.2.2.1 o ho).2 q1
  have eb : a (252 + 6 * o + 4) = nI b := eb
  rw [eb, nI_clamp (by omega)]
  have s1 : wfn (upd (qa_tb1 a o) (252 + 6 * o + 4) (-6)) nb no := by
    refine h.ord ho (fun j hj => by unfold qa_tb1; rw [up_n (by omega), up_n (by omega)]) ?_
    have e3 : upd (qa_tb1 a o) (252 + 6 * o + 4) (-6) (252 + 6 * o + 3) = 0 := by unfold qa_tb1; rw [up_n (by omega), up_s]
    exact ⟨Or.inl e3, fun q => by
      have q : upd (qa_tb1 a o) (252 + 6 * o + 4) (-6) (252 + 6 * o + 3) = 1 := q
      rw [e3] at q
      exact absurd q (by decide)⟩
  exact ⟨nb, no, s1.fld hb (by decide) (by decide) ((s1.2.2.2.2.2.1 b hb).u7 (Or.inl rfl))⟩
theorem wf_limits {a : Nat → Int32} {v0 v1 v2 v3 : Int32} (h : wf a) : wf (op_limits a v0 v1 v2 v3).2.2 := by
  obtain ⟨nb, no, h⟩ := h
  unfold op_limits
  split
  · exact ⟨nb, no, h⟩
  split
  · exact ⟨nb, no, h⟩
  split
  · exact ⟨nb, no, h⟩
  split
  · exact ⟨nb, no, h⟩
  rename_i q0 q1 q2 q3
  obtain ⟨l, hl, rfl⟩ := qa_ixk 2 (by decide) (bnf q0)
  rw [nI_clamp (by omega)]
  obtain ⟨k1, a1, b1, e1⟩ := qa_ixl 100 30000 (by decide) (bnf q1) (by decide)
  obtain ⟨k2, a2, b2, e2⟩ := qa_ixl 100 30000 (by decide) (bnf q2) (by decide)
  obtain ⟨k3, a3, b3, e3⟩ := qa_ixl 100 30000 (by decide) (bnf q3) (by decide)
  refine ⟨nb, no, h.lim (l0 := l) (by omega) (fun j hj => by
    show upd _ _ _ _ = _
    rw [up_n (by omega), up_n (by omega), up_n (by omega)]) ?_⟩
  intro k hk
  show ∃ n : Nat, 100 ≤ n ∧ n ≤ 30000 ∧ upd (upd (upd a (312 + 4 * l + 0) v1) (312 + 4 * l + 1) v2) (312 + 4 * l + 2) v3 (312 + 4 * l + k) = nI n
  match k, hk with
  | 0, _ => rw [up_n (by omega), up_n (by omega), up_s]; exact ⟨k1, a1, b1, e1⟩
  | 1, _ => rw [up_n (by omega), up_s]; exact ⟨k2, a2, b2, e2⟩
  | 2, _ => rw [up_s]; exact ⟨k3, a3, b3, e3⟩
theorem wf_unload {a : Nat → Int32} {v0 : Int32} (h : wf a) : wf (op_unload a v0).2.2 := by
  obtain ⟨nb, no, h⟩ := h
  unfold op_unload
  split
  · exact ⟨nb, no, h⟩
  split
  · exact ⟨nb, no, h⟩
  rename_i q0 q1
  have e5 := h.2.2.1
  have hnb := h.1
  obtain ⟨b, hb, rfl⟩ := qa_ix (n := nb) (by omega) (by rw [← e5]; exact bnf q0)
  rw [nI_clamp (by omega)]
  refine ⟨nb, no, h.f48 (b := b) (w := 0) hb ?_ (by decide) (Or.inr ⟨by decide, rfl⟩) (Or.inl rfl)⟩
  unfold qa_unl
  show upd (upd a (12 + 10 * b + 8) (-6)) (12 + 10 * b + 4) 0 = _
  funext j
  by_cases h8 : j = 12 + 10 * b + 8
  · rw [h8, up_n (by omega), up_s, up_s]
  · by_cases h4 : j = 12 + 10 * b + 4
    · rw [h4, up_s, up_n (by omega), up_s]; rfl
    · rw [up_n h4, up_n h8, up_n h8, up_n h4]
theorem wf_cg {a c : Nat → Int32} (h : wf a) (e : ∀ j : Nat, j < 324 → c j = a j) : wf c := by
  obtain ⟨nb, no, h⟩ := h
  exact ⟨nb, no, h.cg e⟩
theorem wf_il : wf (tw_il 3) := by
  refine ⟨0, 0, by decide, by decide, by decide, by decide, ⟨⟨2, by decide, by decide⟩, ⟨12, by decide, by decide⟩, ⟨5, by decide, by decide⟩, ⟨0, by decide, by decide⟩, Or.inl (by decide)⟩, fun b hb => absurd hb (Nat.not_lt_zero b), fun b hb => absurd hb (Nat.not_lt_zero b), ?_, fun b c hb => absurd hb (Nat.not_lt_zero b)⟩
  intro l hl k hk
  match l, hl with
  | 0, _ => match k, hk with | 0, _ => exact ⟨4000, by decide, by decide, by decide⟩ | 1, _ => exact ⟨8000, by decide, by decide, by decide⟩ | 2, _ => exact ⟨10000, by decide, by decide, by decide⟩
  | 1, _ => match k, hk with | 0, _ => exact ⟨4000, by decide, by decide, by decide⟩ | 1, _ => exact ⟨8000, by decide, by decide, by decide⟩ | 2, _ => exact ⟨10000, by decide, by decide, by decide⟩
  | 2, _ => match k, hk with | 0, _ => exact ⟨4000, by decide, by decide, by decide⟩ | 1, _ => exact ⟨8000, by decide, by decide, by decide⟩ | 2, _ => exact ⟨10000, by decide, by decide, by decide⟩
