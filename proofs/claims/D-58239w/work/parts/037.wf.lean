/-! what every state is like -/
def wS (a : Nat → Int32) : Prop := (∃ k : Nat, k ≤ 9 ∧ a 0 = nI k) ∧ (∃ k : Nat, k ≤ 99 ∧ a 1 = nI k) ∧ (∃ k : Nat, k ≤ 30 ∧ a 3 = nI k) ∧ (∃ k : Nat, k ≤ 999 ∧ a 4 = nI k) ∧ (a 7 = 0 ∨ a 7 = 1)
def wB (no : Nat) (f : Nat → Int32) : Prop := (∀ k : Nat, k < 3 → ∃ s : Nat, 1 ≤ s ∧ s ≤ 300 ∧ f k = nI s) ∧ (∃ d : Nat, 20 ≤ d ∧ d ≤ 30 ∧ f 3 = nI d) ∧ (∃ w : Nat, w ≤ 4 ∧ f 4 = nI w) ∧ (∃ t : Nat, t ≤ 3 ∧ f 5 = nI t) ∧ (f 6 = 0 ∨ f 6 = 1) ∧ (f 7 = -6 ∨ ∃ o : Nat, o < no ∧ f 7 = nI o) ∧ ((f 4 = 2 ∧ ∃ p : Nat, p < 15 ∧ f 8 = nI p) ∨ (f 4 ≠ 2 ∧ f 8 = -6))
def wO (nb : Nat) (f : Nat → Int32) : Prop := (f 3 = 0 ∨ f 3 = 1 ∨ f 3 = 2) ∧ (f 3 = 1 → ∃ b : Nat, b < nb ∧ f 4 = nI b)
def wL (f : Nat → Int32) : Prop := ∀ k : Nat, k < 3 → ∃ n : Nat, 100 ≤ n ∧ n ≤ 30000 ∧ f k = nI n
def wfn (a : Nat → Int32) (nb no : Nat) : Prop := nb ≤ 24 ∧ no ≤ 10 ∧ a 5 = nI nb ∧ a 6 = nI no ∧ wS a ∧ (∀ b : Nat, b < nb → wB no (fun k => a (12 + 10 * b + k))) ∧ (∀ o : Nat, o < no → wO nb (fun k => a (252 + 6 * o + k))) ∧ (∀ l : Nat, l < 3 → wL (fun k => a (312 + 4 * l + k))) ∧
  ∀ b c : Nat, b < nb → c < nb → a (12 + 10 * b + 8) = a (12 + 10 * c + 8) → a (12 + 10 * b + 8) ≠ -6 → b = c
def wf (a : Nat → Int32) : Prop := ∃ nb no : Nat, wfn a nb no
theorem wB.cg {no : Nat} {f g : Nat → Int32} (h : wB no f) (e : ∀ k : Nat, k < 10 → g k = f k) : wB no g := by
  obtain ⟨h1, h2, h3, h4, h5, h6, h7⟩ := h
  refine ⟨fun k hk => by rw [e k (by omega)]; exact h1 k hk, ?_, ?_, ?_, ?_, ?_, ?_⟩
  · rw [e 3 (by decide)]; exact h2
  · rw [e 4 (by decide)]; exact h3
  · rw [e 5 (by decide)]; exact h4
  · rw [e 6 (by decide)]; exact h5
  · rw [e 7 (by decide)]; exact h6
  · rw [e 4 (by decide), e 8 (by decide)]; exact h7
theorem wB.mono {no no' : Nat} {f : Nat → Int32} (h : wB no f) (hn : no ≤ no') : wB no' f := by
  obtain ⟨h1, h2, h3, h4, h5, h6, h7⟩ := h
  refine ⟨h1, h2, h3, h4, h5, ?_, h7⟩
  rcases h6 with h | ⟨o, ho, e⟩
  · exact Or.inl h
  · exact Or.inr ⟨o, by omega, e⟩
theorem wO.cg {nb : Nat} {f g : Nat → Int32} (h : wO nb f) (e3 : g 3 = f 3) (e4 : g 4 = f 4) : wO nb g := by
  unfold wO
  rw [e3, e4]
  exact h
theorem wO.mono {nb nb' : Nat} {f : Nat → Int32} (h : wO nb f) (hn : nb ≤ nb') : wO nb' f := ⟨h.1, fun q => by obtain ⟨b, hb, e⟩ := h.2 q; exact ⟨b, by omega, e⟩⟩
theorem wL.cg {f g : Nat → Int32} (h : wL f) (e : ∀ k : Nat, k < 3 → g k = f k) : wL g := fun k hk => by rw [e k hk]; exact h k hk
theorem wS.cg {a c : Nat → Int32} (h : wS a) (e : ∀ k : Nat, k < 8 → c k = a k) : wS c := by
  unfold wS
  rw [e 0 (by decide), e 1 (by decide), e 3 (by decide), e 4 (by decide), e 7 (by decide)]
  exact h
/-- one block is changed -/
theorem wfn.blk {a c : Nat → Int32} {nb no b0 : Nat} (h : wfn a nb no) (hb : b0 < nb) (e : ∀ j : Nat, (j < 12 + 10 * b0 ∨ 12 + 10 * b0 + 10 ≤ j) → ¬ (8 ≤ j ∧ j < 12) → c j = a j) (hB : wB no (fun k => c (12 + 10 * b0 + k))) (hu : c (12 + 10 * b0 + 8) = a (12 + 10 * b0 + 8) ∨ c (12 + 10 * b0 + 8) = -6 ∨ ∀ b : Nat, b < nb → b ≠ b0 → a (12 + 10 * b + 8) ≠ c (12 + 10 * b0 + 8)) : wfn c nb no := by
  obtain ⟨h1, h2, h3, h4, h5, h6, h7, h8, h9⟩ := h
  have e8 : ∀ b : Nat, b < nb → b ≠ b0 → c (12 + 10 * b + 8) = a (12 + 10 * b + 8) := fun b hb' hne => e _ (by omega) (by omega)
  refine ⟨h1, h2, by rw [e 5 (by omega) (by omega)]; exact h3, by rw [e 6 (by omega) (by omega)]; exact h4, h5.cg (fun k hk => e k (by omega) (by omega)), ?_, ?_, ?_, ?_⟩
  · intro b hb'
    by_cases hbb : b = b0
    · rw [hbb]; exact hB
    · exact (h6 b hb').cg (fun k hk => e _ (by omega) (by omega))
  · exact fun o ho => (h7 o ho).cg (e _ (by omega) (by omega)) (e _ (by omega) (by omega))
  · exact fun l hl => (h8 l hl).cg (fun k hk => e _ (by omega) (by omega))
  · intro b d hb1 hd1 he hne
    by_cases hbb : b = b0
    · by_cases hdd : d = b0
      · omega
      · exfalso
        rw [hbb] at he hne
        rw [e8 d hd1 hdd] at he
        rcases hu with hu | hu | hu
        · rw [hu] at he hne
          exact hdd (h9 b0 d hb hd1 he hne).symm
        · exact hne hu
        · exact hu d hd1 hdd he.symm
    · by_cases hdd : d = b0
      · exfalso
        rw [hdd, e8 b hb1 hbb] at he
        rw [e8 b hb1 hbb] at hne
        rcases hu with hu | hu | hu
        · rw [hu] at he
          exact hbb (h9 b b0 hb1 hb he hne)
        · exact hne (he.trans hu)
        · exact hu b hb1 hbb he
      · rw [e8 b hb1 hbb, e8 d hd1 hdd] at he
        rw [e8 b hb1 hbb] at hne
        exact h9 b d hb1 hd1 he hne
/-- one order is changed -/
theorem wfn.ord {a c : Nat → Int32} {nb no o0 : Nat} (h : wfn a nb no) (ho0 : o0 < no) (e : ∀ j : Nat, (j < 252 + 6 * o0 ∨ 252 + 6 * o0 + 6 ≤ j) → c j = a j) (hO : wO nb (fun k => c (252 + 6 * o0 + k))) : wfn c nb no := by
  obtain ⟨h1, h2, h3, h4, h5, h6, h7, h8, h9⟩ := h
  refine ⟨h1, h2, by rw [e 5 (by omega)]; exact h3, by rw [e 6 (by omega)]; exact h4, h5.cg (fun k hk => e k (by omega)), fun b hb => (h6 b hb).cg (fun k hk => e _ (by omega)), ?_, fun l hl => (h8 l hl).cg (fun k hk => e _ (by omega)), ?_⟩
  · intro o ho
    by_cases hoo : o = o0
    · rw [hoo]; exact hO
    · exact (h7 o ho).cg (e _ (by omega)) (e _ (by omega))
  · intro b d hb hd he hne
    rw [e _ (by omega), e _ (by omega)] at he
    rw [e _ (by omega)] at hne
    exact h9 b d hb hd he hne
/-- numbers of the state, and how often lorries left -/
theorem wfn.sc {a c : Nat → Int32} {nb no : Nat} (h : wfn a nb no) (e : ∀ j : Nat, 12 ≤ j → (j < 312 ∨ (j - 312) % 4 < 3) → c j = a j) (e5 : c 5 = a 5) (e6 : c 6 = a 6) (hS : wS c) : wfn c nb no := by
  obtain ⟨h1, h2, h3, h4, h5, h6, h7, h8, h9⟩ := h
  refine ⟨h1, h2, e5.trans h3, e6.trans h4, hS, fun b hb => (h6 b hb).cg (fun k hk => e _ (by omega) (by omega)), fun o ho => (h7 o ho).cg (e _ (by omega) (by omega)) (e _ (by omega) (by omega)), fun l hl => (h8 l hl).cg (fun k hk => e _ (by omega) (by omega)), ?_⟩
  intro b d hb hd he hne
  rw [e _ (by omega) (by omega), e _ (by omega) (by omega)] at he
  rw [e _ (by omega) (by omega)] at hne
  exact h9 b d hb hd he hne
/-- one of the sums -/
theorem wfn.s1 {a : Nat → Int32} {nb no j : Nat} {v : Int32} (h : wfn a nb no) (h8 : 8 ≤ j) (hj : j < 12) : wfn (upd a j v) nb no := h.sc (fun i hi _ => up_n (by omega)) (up_n (by omega)) (up_n (by omega)) (h.2.2.2.2.1.cg (fun k hk => up_n (by omega)))
/-- limits -/
theorem wfn.lim {a c : Nat → Int32} {nb no l0 : Nat} (h : wfn a nb no) (hl0 : l0 < 3) (e : ∀ j : Nat, (j < 312 + 4 * l0 ∨ 312 + 4 * l0 + 4 ≤ j) → c j = a j) (hL : wL (fun k => c (312 + 4 * l0 + k))) : wfn c nb no := by
  obtain ⟨h1, h2, h3, h4, h5, h6, h7, h8, h9⟩ := h
  refine ⟨h1, h2, by rw [e 5 (by omega)]; exact h3, by rw [e 6 (by omega)]; exact h4, h5.cg (fun k hk => e k (by omega)), fun b hb => (h6 b hb).cg (fun k hk => e _ (by omega)), fun o ho => (h7 o ho).cg (e _ (by omega)) (e _ (by omega)), ?_, ?_⟩
  · intro l hl
    by_cases hll : l = l0
    · rw [hll]; exact hL
    · exact (h8 l hl).cg (fun k hk => e _ (by omega))
  · intro b d hb hd he hne
    rw [e _ (by omega), e _ (by omega)] at he
    rw [e _ (by omega)] at hne
    exact h9 b d hb hd he hne
/-- one block more -/
theorem wfn.newb {a c : Nat → Int32} {nb no : Nat} (h : wfn a nb no) (hb : nb < 24) (e5 : c 5 = a 5 + 1) (e : ∀ j : Nat, j ≠ 5 → (j < 12 + 10 * nb ∨ 12 + 10 * nb + 10 ≤ j) → ¬ (8 ≤ j ∧ j < 12) → c j = a j) (hB : wB no (fun k => c (12 + 10 * nb + k))) (hs : c (12 + 10 * nb + 8) = -6) : wfn c (nb + 1) no := by
  obtain ⟨h1, h2, h3, h4, h5, h6, h7, h8, h9⟩ := h
  have e8 : ∀ b : Nat, b < nb → c (12 + 10 * b + 8) = a (12 + 10 * b + 8) := fun b hb' => e _ (by omega) (by omega) (by omega)
  refine ⟨by omega, h2, by rw [e5, h3]; exact nI_1 nb, by rw [e 6 (by omega) (by omega) (by omega)]; exact h4, ?_, ?_, ?_, ?_, ?_⟩
  · unfold wS
    rw [e 0 (by omega) (by omega) (by omega), e 1 (by omega) (by omega) (by omega), e 3 (by omega) (by omega) (by omega), e 4 (by omega) (by omega) (by omega), e 7 (by omega) (by omega) (by omega)]
    exact h5
  · intro b hb'
    by_cases hbb : b = nb
    · rw [hbb]; exact hB
    · exact (h6 b (by omega)).cg (fun k hk => e _ (by omega) (by omega) (by omega))
  · exact fun o ho => ((h7 o ho).mono (Nat.le_succ nb)).cg (e _ (by omega) (by omega) (by omega)) (e _ (by omega) (by omega) (by omega))
  · exact fun l hl => (h8 l hl).cg (fun k hk => e _ (by omega) (by omega) (by omega))
  · intro b d hb1 hd1 he hne
    by_cases hbb : b = nb
    · rw [hbb] at hne; exact absurd hs hne
    · by_cases hdd : d = nb
      · rw [he, hdd] at hne; exact absurd hs hne
      · rw [e8 b (by omega), e8 d (by omega)] at he
        rw [e8 b (by omega)] at hne
        exact h9 b d (by omega) (by omega) he hne
/-- one order more -/
theorem wfn.newo {a c : Nat → Int32} {nb no : Nat} (h : wfn a nb no) (ho0 : no < 10) (e6 : c 6 = a 6 + 1) (e : ∀ j : Nat, j ≠ 6 → (j < 252 + 6 * no ∨ 252 + 6 * no + 6 ≤ j) → c j = a j) (hO : wO nb (fun k => c (252 + 6 * no + k))) : wfn c nb (no + 1) := by
  obtain ⟨h1, h2, h3, h4, h5, h6, h7, h8, h9⟩ := h
  refine ⟨h1, by omega, by rw [e 5 (by omega) (by omega)]; exact h3, by rw [e6, h4]; exact nI_1 no, ?_, fun b hb => ((h6 b hb).mono (Nat.le_succ no)).cg (fun k hk => e _ (by omega) (by omega)), ?_, fun l hl => (h8 l hl).cg (fun k hk => e _ (by omega) (by omega)), ?_⟩
  · unfold wS
    rw [e 0 (by omega) (by omega), e 1 (by omega) (by omega), e 3 (by omega) (by omega), e 4 (by omega) (by omega), e 7 (by omega) (by omega)]
    exact h5
  · intro o ho
    by_cases hoo : o = no
    · rw [hoo]; exact hO
    · exact (h7 o (by omega)).cg (e _ (by omega) (by omega)) (e _ (by omega) (by omega))
  · intro b d hb hd he hne
    rw [e _ (by omega) (by omega), e _ (by omega) (by omega)] at he
    rw [e _ (by omega) (by omega)] at hne
    exact h9 b d hb hd he hne
