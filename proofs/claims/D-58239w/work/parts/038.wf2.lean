/-! what follows from it, and that every change keeps it -/
theorem wfn.cg {a c : Nat → Int32} {nb no : Nat} (h : wfn a nb no) (e : ∀ j : Nat, j < 324 → c j = a j) : wfn c nb no := by
  obtain ⟨h1, h2, h3, h4, h5, h6, h7, h8, h9⟩ := h
  refine ⟨h1, h2, (e 5 (by omega)).trans h3, (e 6 (by omega)).trans h4, h5.cg (fun k hk => e k (by omega)), fun b hb => (h6 b hb).cg (fun k hk => e _ (by omega)), fun o ho => (h7 o ho).cg (e _ (by omega)) (e _ (by omega)), fun l hl => (h8 l hl).cg (fun k hk => e _ (by omega)), ?_⟩
  intro b d hb hd he hne
  rw [e _ (by omega), e _ (by omega)] at he
  rw [e _ (by omega)] at hne
  exact h9 b d hb hd he hne
theorem wfn.w {a : Nat → Int32} {nb no b : Nat} (h : wfn a nb no) (hb : b < nb) : ∃ k : Nat, k ≤ 81000 ∧ qa_w a b = nI k := by
  obtain ⟨-, -, -, -, -, h6, -⟩ := h
  obtain ⟨g1, ⟨d, d1, d2, ed⟩, -⟩ := h6 b hb
  obtain ⟨s0, a1, a2, e0⟩ := g1 0 (by decide)
  obtain ⟨s1, b1, b2, e1⟩ := g1 1 (by decide)
  obtain ⟨s2, c1, c2, e2⟩ := g1 2 (by decide)
  have m1 : s0 * s1 ≤ 300 * 300 := Nat.mul_le_mul a2 b2
  have m2 : s0 * s1 * s2 ≤ 300 * 300 * 300 := Nat.mul_le_mul m1 c2
  have m3 : s0 * s1 * s2 * d ≤ 300 * 300 * 300 * 30 := Nat.mul_le_mul m2 d2
  refine ⟨s0 * s1 * s2 * d / 10000, by omega, ?_⟩
  unfold qa_w
  have e0 : a (12 + 10 * b) = nI s0 := e0
  have e1 : a (12 + 10 * b + 1) = nI s1 := e1
  have e2 : a (12 + 10 * b + 2) = nI s2 := e2
  have ed : a (12 + 10 * b + 3) = nI d := ed
  rw [e0, e1, e2, ed, pk_mul, pk_mul, pk_mul]
  exact pk_div (d := 10000) (by omega) (by decide) (by decide)
theorem wfn.wk {a : Nat → Int32} {nb no : Nat} (h : wfn a nb no) : qa_wk a nb := fun b hb => by
  obtain ⟨k, hk, e⟩ := h.w hb
  exact ⟨k, by omega, e⟩
theorem wfn.ob {a : Nat → Int32} {nb no : Nat} (h : wfn a nb no) : qa_ob a nb := fun b hb => by
  rcases (h.2.2.2.2.2.1 b hb).2.2.2.2.2.1 with g | ⟨o, ho, e⟩
  · exact Or.inl g
  · exact Or.inr ⟨o, by have := h.2.1; omega, e⟩
theorem wfn.lk {a : Nat → Int32} {nb no : Nat} (h : wfn a nb no) : qa_lk a := fun l hl k hk => by
  obtain ⟨n, n1, n2, e⟩ := h.2.2.2.2.2.2.2.1 l hl k hk
  exact ⟨n, by omega, by omega, e⟩
theorem wfn.hob {a : Nat → Int32} {nb no : Nat} (h : wfn a nb no) : ∀ o, o < no → a (252 + 6 * o + 3) = 1 → ∃ b : Nat, b < 24 ∧ a (252 + 6 * o + 4) = nI b := fun o ho q => by
  obtain ⟨b, hb, e⟩ := (h.2.2.2.2.2.2.1 o ho).2 q
  exact ⟨b, by have := h.1; omega, e⟩
theorem wfn.sum {a : Nat → Int32} {nb no : Nat} (h : wfn a nb no) (c : Bool) : ∀ n : Nat, n ≤ nb → ∃ k : Nat, k ≤ 81000 * n ∧ qa_sum (qa_ncf a c) n = nI k
  | 0, _ => ⟨0, by omega, rfl⟩
  | n + 1, hn => by
    obtain ⟨k, hk, e⟩ := wfn.sum h c n (by omega)
    have hq : ∃ k : Nat, k ≤ 81000 ∧ qa_ncf a c n = nI k := by
      unfold qa_ncf
      split
      · exact ⟨0, by omega, rfl⟩
      · split
        · exact h.w (by omega)
        · exact ⟨1, by omega, rfl⟩
    obtain ⟨k2, hk2, e2⟩ := hq
    refine ⟨k + k2, by omega, ?_⟩
    show qa_sum (qa_ncf a c) n + qa_ncf a c n = _
    rw [e, e2, nI_add]
theorem wfn.sums {a : Nat → Int32} {nb no : Nat} (h : wfn a nb no) (c : Bool) : ∃ k : Nat, k < 2 ^ 31 ∧ qa_sum (qa_ncf a c) nb = nI k := by
  obtain ⟨k, hk, e⟩ := h.sum c nb (Nat.le_refl _)
  exact ⟨k, by have := h.1; omega, e⟩
/-! one field of a block -/
theorem wfn.fld {a : Nat → Int32} {nb no b k0 : Nat} {v : Int32} (h : wfn a nb no) (hb : b < nb) (hk : k0 < 10) (h8 : k0 ≠ 8) (hB : wB no (upd (fun k => a (12 + 10 * b + k)) k0 v)) : wfn (upd a (12 + 10 * b + k0) v) nb no := by
  refine h.blk hb (fun j hj _ => up_n (by omega)) ?_ (Or.inl (up_n (by omega)))
  have e : (fun k => upd a (12 + 10 * b + k0) v (12 + 10 * b + k)) = upd (fun k => a (12 + 10 * b + k)) k0 v := by
    funext k
    by_cases hkk : k = k0
    · rw [hkk, up_s, up_s]
    · rw [up_n hkk, up_n (by omega)]
  rw [e]
  exact hB
theorem wB.sz {no k0 s : Nat} {f : Nat → Int32} (h : wB no f) (hk : k0 < 3) (h1 : 1 ≤ s) (h2 : s ≤ 300) : wB no (upd f k0 (nI s)) := by
  obtain ⟨g1, g2⟩ := h
  refine ⟨fun k hk' => ?_, ?_⟩
  · by_cases hkk : k = k0
    · rw [hkk, up_s]; exact ⟨s, h1, h2, rfl⟩
    · rw [up_n hkk]; exact g1 k hk'
  · rw [up_n (by omega), up_n (by omega), up_n (by omega), up_n (by omega), up_n (by omega), up_n (by omega)]
    exact g2
theorem wB.u4 {no w : Nat} {f : Nat → Int32} (h : wB no f) (h1 : w ≤ 4) (h2 : w ≠ 2) (h3 : f 4 ≠ 2) : wB no (upd f 4 (nI w)) := by
  obtain ⟨g1, g2, g3, g4, g5, g6, g7⟩ := h
  refine ⟨fun k hk' => by rw [up_n (by omega)]; exact g1 k hk', ?_, ?_, ?_, ?_, ?_, ?_⟩
  · rw [up_n (by omega)]; exact g2
  · rw [up_s]; exact ⟨w, h1, rfl⟩
  · rw [up_n (by omega)]; exact g4
  · rw [up_n (by omega)]; exact g5
  · rw [up_n (by omega)]; exact g6
  · rw [up_s, up_n (by omega)]
    refine Or.inr ⟨fun q => h2 ((nI_eq (b := 2) (by omega) (by decide)).mp q), ?_⟩
    rcases g7 with g | g
    · exact absurd g.1 h3
    · exact g.2
theorem wB.u5 {no t : Nat} {f : Nat → Int32} (h : wB no f) (h1 : t ≤ 3) : wB no (upd f 5 (nI t)) := by
  obtain ⟨g1, g2, g3, g4, g5, g6, g7⟩ := h
  refine ⟨fun k hk' => by rw [up_n (by omega)]; exact g1 k hk', ?_, ?_, ?_, ?_, ?_, ?_⟩
  · rw [up_n (by omega)]; exact g2
  · rw [up_n (by omega)]; exact g3
  · rw [up_s]; exact ⟨t, h1, rfl⟩
  · rw [up_n (by omega)]; exact g5
  · rw [up_n (by omega)]; exact g6
  · rw [up_n (by omega), up_n (by omega)]; exact g7
theorem wB.u6 {no : Nat} {f : Nat → Int32} {v : Int32} (h : wB no f) (h1 : v = 0 ∨ v = 1) : wB no (upd f 6 v) := by
  obtain ⟨g1, g2, g3, g4, g5, g6, g7⟩ := h
  refine ⟨fun k hk' => by rw [up_n (by omega)]; exact g1 k hk', ?_, ?_, ?_, ?_, ?_, ?_⟩
  · rw [up_n (by omega)]; exact g2
  · rw [up_n (by omega)]; exact g3
  · rw [up_n (by omega)]; exact g4
  · rw [up_s]; exact h1
  · rw [up_n (by omega)]; exact g6
  · rw [up_n (by omega), up_n (by omega)]; exact g7
theorem wB.u7 {no : Nat} {f : Nat → Int32} {v : Int32} (h : wB no f) (h1 : v = -6 ∨ ∃ o : Nat, o < no ∧ v = nI o) : wB no (upd f 7 v) := by
  obtain ⟨g1, g2, g3, g4, g5, g6, g7⟩ := h
  refine ⟨fun k hk' => by rw [up_n (by omega)]; exact g1 k hk', ?_, ?_, ?_, ?_, ?_, ?_⟩
  · rw [up_n (by omega)]; exact g2
  · rw [up_n (by omega)]; exact g3
  · rw [up_n (by omega)]; exact g4
  · rw [up_n (by omega)]; exact g5
  · rw [up_s]; exact h1
  · rw [up_n (by omega), up_n (by omega)]; exact g7
theorem wB.u9 {no : Nat} {f : Nat → Int32} {v : Int32} (h : wB no f) : wB no (upd f 9 v) := by
  obtain ⟨g1, g2, g3, g4, g5, g6, g7⟩ := h
  refine ⟨fun k hk' => by rw [up_n (by omega)]; exact g1 k hk', ?_, ?_, ?_, ?_, ?_, ?_⟩
  · rw [up_n (by omega)]; exact g2
  · rw [up_n (by omega)]; exact g3
  · rw [up_n (by omega)]; exact g4
  · rw [up_n (by omega)]; exact g5
  · rw [up_n (by omega)]; exact g6
  · rw [up_n (by omega), up_n (by omega)]; exact g7
/-- where and at which spot, both -/
theorem wB.u48 {no w : Nat} {f : Nat → Int32} {v : Int32} (h : wB no f) (h1 : w ≤ 4) (h2 : (w = 2 ∧ ∃ p : Nat, p < 15 ∧ v = nI p) ∨ (w ≠ 2 ∧ v = -6)) : wB no (upd (upd f 4 (nI w)) 8 v) := by
  obtain ⟨g1, g2, g3, g4, g5, g6, g7⟩ := h
  refine ⟨fun k hk' => by rw [up_n (by omega), up_n (by omega)]; exact g1 k hk', ?_, ?_, ?_, ?_, ?_, ?_⟩
  · rw [up_n (by omega), up_n (by omega)]; exact g2
  · rw [up_n (by omega), up_s]; exact ⟨w, h1, rfl⟩
  · rw [up_n (by omega), up_n (by omega)]; exact g4
  · rw [up_n (by omega), up_n (by omega)]; exact g5
  · rw [up_n (by omega), up_n (by omega)]; exact g6
  · rw [up_n (by omega), up_s, up_s]
    rcases h2 with ⟨rfl, h2⟩ | ⟨h2, h3⟩
    · exact Or.inl ⟨rfl, h2⟩
    · exact Or.inr ⟨fun q => h2 ((nI_eq (b := 2) (by omega) (by decide)).mp q), h3⟩
theorem wfn.f48 {a c : Nat → Int32} {nb no b w : Nat} {v : Int32} (h : wfn a nb no) (hb : b < nb) (e : c = upd (upd a (12 + 10 * b + 4) (nI w)) (12 + 10 * b + 8) v) (h1 : w ≤ 4) (h2 : (w = 2 ∧ ∃ p : Nat, p < 15 ∧ v = nI p) ∨ (w ≠ 2 ∧ v = -6)) (hu : v = -6 ∨ ∀ d : Nat, d < nb → d ≠ b → a (12 + 10 * d + 8) ≠ v) : wfn c nb no := by
  subst e
  refine h.blk hb (fun j hj _ => by rw [up_n (by omega), up_n (by omega)]) ?_ (Or.inr (by rw [up_s]; exact hu))
  have e : (fun k => upd (upd a (12 + 10 * b + 4) (nI w)) (12 + 10 * b + 8) v (12 + 10 * b + k)) = upd (upd (fun k => a (12 + 10 * b + k)) 4 (nI w)) 8 v := by
    funext k
    by_cases hk8 : k = 8
    · rw [hk8, up_s, up_s]
    · rw [up_n hk8, up_n (by omega)]
      by_cases hk4 : k = 4
      · rw [hk4, up_s, up_s]
      · rw [up_n hk4, up_n (by omega)]
  rw [e]
  exact wB.u48 (h.2.2.2.2.2.1 b hb) h1 h2
theorem wfn.spot {a : Nat → Int32} {nb no b : Nat} (h : wfn a nb no) (hb : b < nb) : (a (12 + 10 * b + 4) = 2 ∧ ∃ p : Nat, p < 15 ∧ a (12 + 10 * b + 8) = nI p) ∨ (a (12 + 10 * b + 4) ≠ 2 ∧ a (12 + 10 * b + 8) = -6) := (h.2.2.2.2.2.1 b hb).2.2.2.2.2.2
theorem qa_here_2 {a : Nat → Int32} {b : Nat} (h : qa_here a b = true) : a (12 + 10 * b + 4) ≠ 2 := by
  unfold qa_here at h
  intro q
  rw [q] at h
  exact absurd h (by decide)
