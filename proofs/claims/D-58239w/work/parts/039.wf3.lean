/-! every change keeps it -/
theorem qa_zero_in {a : Nat → Int32} {b j : Nat} : ∀ k : Nat, 12 + 10 * b ≤ j → j < 12 + 10 * b + k → qa_zero a b k j = 0
  | 0, h1, h2 => by omega
  | k + 1, h1, h2 => by
    unfold qa_zero
    by_cases hj : j = 12 + 10 * b + k
    · rw [hj, up_s]
    · rw [up_n hj]; exact qa_zero_in k h1 (by omega)
theorem qa_zero_ot {a : Nat → Int32} {b j : Nat} : ∀ k : Nat, (j < 12 + 10 * b ∨ 12 + 10 * b + k ≤ j) → qa_zero a b k j = a j
  | 0, _ => rfl
  | k + 1, h => by unfold qa_zero; rw [up_n (by omega)]; exact qa_zero_ot k (by omega)
theorem qa_new_ot {a : Nat → Int32} {nb j : Nat} {x y z d : Int32} (h5 : j ≠ 5) (h : j < 12 + 10 * nb ∨ 12 + 10 * nb + 10 ≤ j) : qa_new a nb x y z d j = a j := by
  unfold qa_new
  rw [up_n (by omega), up_n (by omega), up_n (by omega), up_n (by omega), up_n (by omega), up_n (by omega), up_n (by omega), qa_zero_ot 10 h, up_n h5]
theorem qa_new_in {a : Nat → Int32} {nb : Nat} {x y z d : Int32} : (fun k => if k < 10 then qa_new a nb x y z d (12 + 10 * nb + k) else 0) = fun k => if k = 0 then x else if k = 1 then y else if k = 2 then z else if k = 3 then d else if k = 7 then -6 else if k = 8 then -6 else if k = 9 then -6 else 0 := by
  funext k
  by_cases hk : k < 10
  · rw [if_pos hk]
    unfold qa_new
    match k, hk with
    | 0, _ => rw [up_n (by omega), up_n (by omega), up_n (by omega), up_n (by omega), up_n (by omega), up_n (by omega), up_s]; rfl
    | 1, _ => rw [up_n (by omega), up_n (by omega), up_n (by omega), up_n (by omega), up_n (by omega), up_s]; rfl
    | 2, _ => rw [up_n (by omega), up_n (by omega), up_n (by omega), up_n (by omega), up_s]; rfl
    | 3, _ => rw [up_n (by omega), up_n (by omega), up_n (by omega), up_s]; rfl
    | 4, _ => rw [up_n (by omega), up_n (by omega), up_n (by omega), up_n (by omega), up_n (by omega), up_n (by omega), up_n (by omega), qa_zero_in 10 (by omega) (by omega)]; rfl
    | 5, _ => rw [up_n (by omega), up_n (by omega), up_n (by omega), up_n (by omega), up_n (by omega), up_n (by omega), up_n (by omega), qa_zero_in 10 (by omega) (by omega)]; rfl
    | 6, _ => rw [up_n (by omega), up_n (by omega), up_n (by omega), up_n (by omega), up_n (by omega), up_n (by omega), up_n (by omega), qa_zero_in 10 (by omega) (by omega)]; rfl
    | 7, _ => rw [up_n (by omega), up_n (by omega), up_s]; rfl
    | 8, _ => rw [up_n (by omega), up_s]; rfl
    | 9, _ => rw [up_s]; rfl
  · rw [if_neg hk, if_neg (by omega), if_neg (by omega), if_neg (by omega), if_neg (by omega), if_neg (by omega), if_neg (by omega), if_neg (by omega)]
theorem qa_new_f {a : Nat → Int32} {nb k : Nat} {x y z d : Int32} (hk : k < 10) : qa_new a nb x y z d (12 + 10 * nb + k) = if k = 0 then x else if k = 1 then y else if k = 2 then z else if k = 3 then d else if k = 7 then -6 else if k = 8 then -6 else if k = 9 then -6 else 0 := by
  have h := congrFun (qa_new_in (a := a) (nb := nb) (x := x) (y := y) (z := z) (d := d)) k
  simp only [hk, if_true] at h
  exact h
/-- sizes and a density that may be -/
def wZ (x : Int32) : Prop := ∃ s : Nat, 1 ≤ s ∧ s ≤ 300 ∧ x = nI s
theorem wZ_of {x : Int32} (h : ¬ qa_in x 1 300 = false) : wZ x := by
  have h : qa_in x 1 300 = true := by
    cases hh : qa_in x 1 300 with
    | true => rfl
    | false => exact absurd hh h
  obtain ⟨s, h1, h2, e⟩ := qa_ixl 1 300 (by decide) h (by decide)
  exact ⟨s, h1, h2, e⟩
theorem wfn.new {a : Nat → Int32} {nb no : Nat} {x y z d : Int32} (h : wfn a nb no) (hb : nb < 24) (hx : wZ x) (hy : wZ y) (hz : wZ z) (hd : ∃ k : Nat, 20 ≤ k ∧ k ≤ 30 ∧ d = nI k) : wfn (qa_new a nb x y z d) (nb + 1) no := by
  refine h.newb hb (qa_new_5) (fun j h5 hj _ => qa_new_ot h5 hj) ?_ (by rw [qa_new_f (by decide)]; rfl)
  refine ⟨?_, ?_, ?_, ?_, ?_, ?_, ?_⟩
  · intro k hk
    show ∃ s : Nat, 1 ≤ s ∧ s ≤ 300 ∧ qa_new a nb x y z d (12 + 10 * nb + k) = nI s
    rw [qa_new_f (by omega)]
    match k, hk with
    | 0, _ => exact hx
    | 1, _ => exact hy
    | 2, _ => exact hz
  · show ∃ s : Nat, 20 ≤ s ∧ s ≤ 30 ∧ qa_new a nb x y z d (12 + 10 * nb + 3) = nI s
    rw [qa_new_f (by omega)]
    exact hd
  · show ∃ s : Nat, s ≤ 4 ∧ qa_new a nb x y z d (12 + 10 * nb + 4) = nI s
    rw [qa_new_f (by omega)]
    exact ⟨0, by decide, rfl⟩
  · show ∃ s : Nat, s ≤ 3 ∧ qa_new a nb x y z d (12 + 10 * nb + 5) = nI s
    rw [qa_new_f (by omega)]
    exact ⟨0, by decide, rfl⟩
  · show qa_new a nb x y z d (12 + 10 * nb + 6) = 0 ∨ qa_new a nb x y z d (12 + 10 * nb + 6) = 1
    rw [qa_new_f (by omega)]
    exact Or.inl rfl
  · show qa_new a nb x y z d (12 + 10 * nb + 7) = -6 ∨ _
    rw [qa_new_f (by omega)]
    exact Or.inl rfl
  · refine Or.inr ⟨?_, ?_⟩
    · show qa_new a nb x y z d (12 + 10 * nb + 4) ≠ 2
      rw [qa_new_f (by omega)]
      show (0 : Int32) ≠ 2
      decide
    · show qa_new a nb x y z d (12 + 10 * nb + 8) = -6
      rw [qa_new_f (by omega)]
      rfl
theorem wf_quarries {a : Nat → Int32} {x y z d : Int32} (h : wf a) : wf (op_quarries a x y z d).2 := by
  obtain ⟨nb, no, h⟩ := h
  unfold op_quarries
  split
  · exact ⟨nb, no, h⟩
  split
  · exact ⟨nb, no, h⟩
  split
  · exact ⟨nb, no, h⟩
  split
  · exact ⟨nb, no, h⟩
  split
  · exact ⟨nb, no, h⟩
  rename_i hx hy hz hd h5
  have hb : nb < 24 := by
    have := h.1
    have h6 : nb ≠ 24 := fun q => h5 (by rw [h.2.2.1, q]; rfl)
    omega
  rw [h.2.2.1, nI_clamp (by omega)]
  have hd : qa_in d 20 30 = true := by
    cases hh : qa_in d 20 30 with
    | true => rfl
    | false => exact absurd hh hd
  obtain ⟨k, k1, k2, ek⟩ := qa_ixl 20 30 (by decide) hd (by decide)
  have hn := h.new hb (wZ_of hx) (wZ_of hy) (wZ_of hz) ⟨k, k1, k2, ek⟩
  refine ⟨nb + 1, no, wfn.s1 ?_ (by decide) (by decide)⟩
  unfold qa_qua
  exact hn.fld (Nat.lt_succ_self nb) (by decide) (by decide) ((hn.2.2.2.2.2.1 nb (Nat.lt_succ_self nb)).u5 (t := 3) (by decide))
theorem qa_part0_ot {a : Nat → Int32} {nb b k j : Nat} {sz : Int32} (h5 : j ≠ 5) (hk : k < 3) (h : j < 12 + 10 * nb ∨ 12 + 10 * nb + 10 ≤ j) : qa_part0 a nb b k sz j = a j := by
  unfold qa_part0 qa_cp
  rw [up_n (by omega), up_n (by omega), up_n (by omega), up_n (by omega), qa_new_ot h5 h]
theorem qa_part_ot {a : Nat → Int32} {nb b k j : Nat} {sz : Int32} (h5 : j ≠ 5) (h9 : j ≠ 9) (hk : k < 3) (h : j < 12 + 10 * nb ∨ 12 + 10 * nb + 10 ≤ j) : qa_part a nb b k sz j = a j := by
  unfold qa_part
  rw [up_n h9, qa_part0_ot h5 hk h]
theorem qa_part_4 {a : Nat → Int32} {nb b k : Nat} {sz : Int32} (hk : k < 3) : qa_part a nb b k sz (12 + 10 * nb + 4) = 0 := by
  unfold qa_part qa_part0 qa_cp
  rw [up_n (by omega), up_n (by omega), up_n (by omega), up_n (by omega), up_n (by omega), qa_new_f (by decide)]
  rfl
theorem wfn.part {a : Nat → Int32} {nb no b k : Nat} {sz : Int32} (h : wfn a nb no) (hb : nb < 24) (hbb : b < nb) (hk : k < 3) (hz : wZ sz) : wfn (qa_part a nb b k sz) (nb + 1) no := by
  obtain ⟨g1, g2, g3, g4, g5, g6, g7⟩ := h.2.2.2.2.2.1 b hbb
  have s1 := h.new hb (g1 0 (by decide)) (g1 1 (by decide)) (g1 2 (by decide)) g2
  obtain ⟨s, z1, z2, rfl⟩ := hz
  have hl := Nat.lt_succ_self nb
  have s2 := s1.fld hl (k0 := k) (by omega) (by omega) ((s1.2.2.2.2.2.1 nb hl).sz hk z1 z2)
  have s3 : wfn (qa_cp (upd (qa_new a nb (a (12 + 10 * b + 0)) (a (12 + 10 * b + 1)) (a (12 + 10 * b + 2)) (a (12 + 10 * b + 3))) (12 + 10 * nb + k) (nI s)) nb b 5) (nb + 1) no := by
    obtain ⟨t, t1, t2⟩ := (s2.2.2.2.2.2.1 b (by omega)).2.2.2.1
    unfold qa_cp
    refine s2.fld hl (by decide) (by decide) ?_
    have t2 : upd (qa_new a nb (a (12 + 10 * b + 0)) (a (12 + 10 * b + 1)) (a (12 + 10 * b + 2)) (a (12 + 10 * b + 3))) (12 + 10 * nb + k) (nI s) (12 + 10 * b + 5) = nI t := t2
    rw [t2]
    exact (s2.2.2.2.2.2.1 nb hl).u5 t1
  have s4 := s3.fld hl (k0 := 6) (by decide) (by decide) ((s3.2.2.2.2.2.1 nb hl).u6 ((s3.2.2.2.2.2.1 b (by omega)).2.2.2.2.1))
  have s5 := s4.fld hl (k0 := 9) (v := nI b) (by decide) (by decide) ((s4.2.2.2.2.2.1 nb hl).u9)
  exact s5.s1 (by decide) (by decide)
theorem zz_rest {s t w : Nat} (hs : s ≤ 1000) (ht : t ≤ 1000) (hw : w ≤ 1000) (h : 1 ≤ nI s - nI t - nI w) : ∃ r : Nat, 1 ≤ r ∧ r ≤ s ∧ nI s - nI t - nI w = nI r := by
  have e : nI s - nI t - nI w = nI s - nI (t + w) := by
    rw [← nI_add, Int32.sub_eq_add_neg, Int32.sub_eq_add_neg, Int32.sub_eq_add_neg, Int32.neg_add, Int32.add_assoc, Int32.sub_eq_add_neg]
  rw [e] at h ⊢
  by_cases hh : t + w ≤ s
  · rw [pk_sub hh] at h ⊢
    exact ⟨s - (t + w), (nI_leI (a := 1) (by decide) (by omega)).mp h, by omega, rfl⟩
  · exfalso
    have h2 := pk_sneg (a := s) (b := t + w) (by omega) (by omega)
    exact absurd (Int32.lt_of_le_of_lt h h2) (by decide)
theorem wf_cuts {a : Nat → Int32} {v0 v1 v2 : Int32} (h : wf a) : wf (op_cuts a v0 v1 v2).2 := by
  obtain ⟨nb, no, h⟩ := h
  unfold op_cuts
  split
  · exact ⟨nb, no, h⟩
  split
  · exact ⟨nb, no, h⟩
  split
  · exact ⟨nb, no, h⟩
  split
  · exact ⟨nb, no, h⟩
  split
  · exact ⟨nb, no, h⟩
  split
  · exact ⟨nb, no, h⟩
  rename_i q0 q1 q2 q3 q4 q5
  have e5 := h.2.2.1
  have hnb := h.1
  obtain ⟨b, hb, rfl⟩ := qa_ix (n := nb) (by omega) (by rw [← e5]; exact Bool.not_eq_false _ |>.mp q0)
  obtain ⟨k, hk, rfl⟩ := qa_ixk 2 (by decide) (Bool.not_eq_false _ |>.mp q1)
  rw [nI_clamp (by omega)] at q3 q4
  rw [nI_clamp (by omega)] at q4
  rw [e5, nI_clamp (by omega), nI_clamp (by omega), nI_clamp (by omega)]
  have hnb2 : nb + 2 ≤ 24 := by
    have q5 := Decidable.not_not.mp q5
    rw [e5] at q5
    exact (nI_leI (a := nb + 2) (b := 24) (by omega) (by omega)).mp (by rw [← nI_add]; exact q5)
  obtain ⟨sz, z1, z2, ez⟩ := wZ_of q2
  have q4 := Decidable.not_not.mp q4
  obtain ⟨s0, u1, u2, eu⟩ := (h.2.2.2.2.2.1 b hb).1 k (by omega)
  obtain ⟨w0, w1, ew⟩ := h.2.2.2.2.1.1
  have eu : a (12 + 10 * b + k) = nI s0 := eu
  have hr : wZ (qa_rest a b k v2) := by
    unfold qa_rest at q4 ⊢
    rw [eu, ez, ew] at q4 ⊢
    obtain ⟨r, r1, r2, er⟩ := zz_rest (by omega) (by omega) (by omega) q4
    exact ⟨r, r1, by omega, er⟩
  have s1 : wfn (upd a 9 (a 9 + qa_w a b)) nb no := h.s1 (by decide) (by decide)
  have s2 := s1.part (by omega) hb (k := k) (by omega) ⟨sz, z1, z2, ez⟩
  have s3 := s2.part (by omega) (b := b) (by omega) (k := k) (by omega) hr
  have hw : a (12 + 10 * b + 4) ≠ 2 := qa_here_2 (by
    have q3 := Bool.not_eq_false _ |>.mp q3
    simp only [qa_cbc, Bool.and_eq_true] at q3
    exact q3.1.2)
  have s4 : wfn (qa_cut0 a nb b k v2 (qa_rest a b k v2)) (nb + 2) no := by
    unfold qa_cut0
    refine s3.fld (by omega) (by decide) (by decide) ((s3.2.2.2.2.2.1 b (by omega)).u4 (w := 4) (by decide) (by decide) ?_)
    show qa_part (qa_part (upd a 9 (a 9 + qa_w a b)) nb b k v2) (nb + 1) b k (qa_rest a b k v2) (12 + 10 * b + 4) ≠ 2
    rw [qa_part_ot (by omega) (by omega) (by omega) (by omega), qa_part_ot (by omega) (by omega) (by omega) (by omega), up_n (by omega)]
    exact hw
  have hf : ∀ i : Nat, i < 2 → qa_cut0 a nb b k v2 (qa_rest a b k v2) (12 + 10 * (nb + i) + 4) ≠ 2 := by
    intro i hi
    unfold qa_cut0
    rw [up_n (by omega)]
    match i, hi with
    | 0, _ => rw [qa_part_ot (by omega) (by omega) (by omega) (by omega)]; show qa_part _ nb _ _ _ (12 + 10 * nb + 4) ≠ 2; rw [qa_part_4 (by omega)]; decide
    | 1, _ => rw [qa_part_4 (by omega)]; decide
  have s5 : ∀ (u : Bool) (i : Nat), i ≤ 2 → wfn (qa_rf (qa_cut0 a nb b k v2 (qa_rest a b k v2)) u nb i) (nb + 2) no := by
    intro u i
    induction i with
    | zero => exact fun _ => s4
    | succ i ih =>
      intro hi
      have ih := ih (by omega)
      unfold qa_rf
      have hv : ∃ w : Nat, w ≤ 4 ∧ w ≠ 2 ∧ (if (u && decide (qa_cnt (fun b_1 => decide (qa_rf (qa_cut0 a nb b k v2 (qa_rest a b k v2)) u nb i (12 + 10 * b_1 + 4) = 1)) (nb + 2) < 4)) = true then (1 : Int32) else 0) = nI w := by
        split
        · exact ⟨1, by decide, by decide, rfl⟩
        · exact ⟨0, by decide, by decide, rfl⟩
      obtain ⟨w, w1, w2, ew⟩ := hv
      rw [ew]
      refine ih.fld (by omega) (by decide) (by decide) ((ih.2.2.2.2.2.1 (nb + i) (by omega)).u4 w1 w2 ?_)
      show qa_rf (qa_cut0 a nb b k v2 (qa_rest a b k v2)) u nb i (12 + 10 * (nb + i) + 4) ≠ 2
      have ho : ∀ m : Nat, m ≤ i → qa_rf (qa_cut0 a nb b k v2 (qa_rest a b k v2)) u nb m (12 + 10 * (nb + i) + 4) = qa_cut0 a nb b k v2 (qa_rest a b k v2) (12 + 10 * (nb + i) + 4) := by
        intro m
        induction m with
        | zero => exact fun _ => rfl
        | succ m im => intro hm; unfold qa_rf; rw [up_n (by omega)]; exact im (by omega)
      rw [ho i (Nat.le_refl _)]
      exact hf i (by omega)
  exact ⟨nb + 2, no, s5 _ 2 (by decide)⟩
