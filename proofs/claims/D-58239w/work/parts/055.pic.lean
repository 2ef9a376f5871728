/-! the component's picture: a quarry as a picture of the state a -/
abbrev sz_F (x y z : Int32) : va_E := .inr (4, [.int x, .int y, .int z])
abbrev bl_G (n : Int32) (s : Nat) (d f w t o p c : Int32) : va_E := .inr (2, [.int n, .ref s, .int d, .int f, .int w, .int t, .int o, .int p, .int c])
abbrev or_G (s : Nat) (t b i : Int32) : va_E := .inr (3, [.ref s, .int t, .int b, .int i])
/-- block b of the state a -/
abbrev bl_F (a : Nat → Int32) (b s : Nat) : va_E := bl_G (nI b) s (a (12 + 10 * b + 3)) (a (12 + 10 * b + 9)) (a (12 + 10 * b + 4)) (a (12 + 10 * b + 5)) (a (12 + 10 * b + 7)) (a (12 + 10 * b + 8)) (a (12 + 10 * b + 6))
abbrev or_F (a : Nat → Int32) (o s : Nat) : va_E := or_G s (a (252 + 6 * o + 3)) (a (252 + 6 * o + 4)) (a (252 + 6 * o + 5))
abbrev bs_F (a : Nat → Int32) (b : Nat) : va_E := sz_F (a (12 + 10 * b)) (a (12 + 10 * b + 1)) (a (12 + 10 * b + 2))
abbrev os_F (a : Nat → Int32) (o : Nat) : va_E := sz_F (a (252 + 6 * o)) (a (252 + 6 * o + 1)) (a (252 + 6 * o + 2))
abbrev qu_F0 (ad : Nat → Nat) (fr ni qu lo de iv : Int32) : va_E := .inr (1, [.ref (ad 1), .ref (ad 2), .ref (ad 3), .ref (ad 4), .ref (ad 5), .ref (ad 6), .ref (ad 8), .int fr, .int ni, .int qu, .int lo, .int de, .int iv])
abbrev qu_C (ad : Nat → Nat) (a : Nat → Int32) : va_E := qu_F0 ad (a 7) (a 4) (a 8) (a 9) (a 10) (a 11)
theorem bl_cg {a a' : Nat → Int32} {b s : Nat} (h : ∀ k : Nat, 3 ≤ k → k < 10 → a' (12 + 10 * b + k) = a (12 + 10 * b + k)) : bl_F a' b s = bl_F a b s := by
  unfold bl_F
  rw [h 3 (by decide) (by decide), h 4 (by decide) (by decide), h 5 (by decide) (by decide), h 6 (by decide) (by decide), h 7 (by decide) (by decide), h 8 (by decide) (by decide), h 9 (by decide) (by decide)]
theorem bs_cg {a a' : Nat → Int32} {b : Nat} (h : ∀ k : Nat, k < 3 → a' (12 + 10 * b + k) = a (12 + 10 * b + k)) : bs_F a' b = bs_F a b := by
  unfold bs_F
  rw [show a' (12 + 10 * b) = a (12 + 10 * b) from h 0 (by decide), h 1 (by decide), h 2 (by decide)]
theorem or_cg {a a' : Nat → Int32} {o s : Nat} (h : ∀ k : Nat, 3 ≤ k → k < 6 → a' (252 + 6 * o + k) = a (252 + 6 * o + k)) : or_F a' o s = or_F a o s := by
  unfold or_F
  rw [h 3 (by decide) (by decide), h 4 (by decide) (by decide), h 5 (by decide) (by decide)]
theorem os_cg {a a' : Nat → Int32} {o : Nat} (h : ∀ k : Nat, k < 3 → a' (252 + 6 * o + k) = a (252 + 6 * o + k)) : os_F a' o = os_F a o := by
  unfold os_F
  rw [show a' (252 + 6 * o) = a (252 + 6 * o) from h 0 (by decide), h 1 (by decide), h 2 (by decide)]
theorem qc_cg {ad : Nat → Nat} {a a' : Nat → Int32} (h : ∀ k : Nat, 4 ≤ k → k < 12 → k ≠ 5 → k ≠ 6 → a' k = a k) : qu_C ad a' = qu_C ad a := by
  unfold qu_C
  rw [h 7 (by decide) (by decide) (by decide) (by decide), h 4 (by decide) (by decide) (by decide) (by decide), h 8 (by decide) (by decide) (by decide) (by decide), h 9 (by decide) (by decide) (by decide) (by decide), h 10 (by decide) (by decide) (by decide) (by decide), h 11 (by decide) (by decide) (by decide) (by decide)]
/-- an array of n that holds g -/
def qu_A (D : va_G) (h : zz_H) (p n : Nat) (g : Nat → Int32) : Prop := ∃ f : Nat → Int32, h p = some (.inl (D.1 100, n, .inl f)) ∧ ∀ k : Nat, k < n → f k = g k
theorem qu_A.fr {D : va_G} {h h' : zz_H} {p n : Nat} {g : Nat → Int32} (H : qu_A D h p n g) (hf : ∀ e, h p = some e → h' p = some e) : qu_A D h' p n g := by
  obtain ⟨f, h1, h2⟩ := H
  exact ⟨f, hf _ h1, h2⟩
theorem qu_A.un {D : va_G} {h : zz_H} {p n x : Nat} {e : va_E} {g : Nat → Int32} (H : qu_A D h p n g) (hn : p ≠ x) : qu_A D (zz_up h x e) p n g := H.fr (fun _ he => (zz_un hn).trans he)
theorem qu_A.cg {D : va_G} {h : zz_H} {p n : Nat} {g g' : Nat → Int32} (H : qu_A D h p n g) (hg : ∀ k : Nat, k < n → g' k = g k) : qu_A D h p n g' := by
  obtain ⟨f, h1, h2⟩ := H
  exact ⟨f, h1, fun k hk => (h2 k hk).trans (hg k hk).symm⟩
/-- a list of n objects; its table's tag -/
def qu_Lx (D : va_G) (h : zz_H) (ow : Nat → Nat × Nat) (tag : Nat × Nat) (L n : Nat) (el : Nat → Nat) (mc : Int32) (ar cap : Nat) (f : Nat → Option Nat) : Prop :=
  h L = some (li_F mc ar n) ∧ ((h ar = some (li_T D cap f) ∧ 0 < cap ∧ ow ar = tag) ∨ (ar = D.2 1000 3 ∧ cap = 0)) ∧ n ≤ cap ∧ cap ≤ 100 ∧ (∀ i : Nat, n ≤ i → f i = none) ∧ ∀ i : Nat, i < n → f i = some (el i)
def qu_L (D : va_G) (h : zz_H) (ow : Nat → Nat × Nat) (tag : Nat × Nat) (L n : Nat) (el : Nat → Nat) : Prop := ∃ (mc : Int32) (ar cap : Nat) (f : Nat → Option Nat), qu_Lx D h ow tag L n el mc ar cap f
theorem qu_Lx.fr {D : va_G} {h h' : zz_H} {ow ow' : Nat → Nat × Nat} {tag : Nat × Nat} {L n ar cap : Nat} {el : Nat → Nat} {mc : Int32} {f : Nat → Option Nat} (H : qu_Lx D h ow tag L n el mc ar cap f) (hL : ∀ e, h L = some e → h' L = some e) (hA : ∀ y e, h y = some e → ow y = tag → h' y = some e ∧ ow' y = tag) : qu_Lx D h' ow' tag L n el mc ar cap f := by
  obtain ⟨h1, h2, h3⟩ := H
  refine ⟨hL _ h1, ?_, h3⟩
  rcases h2 with ⟨g1, g2, g3⟩ | g
  · obtain ⟨k1, k2⟩ := hA _ _ g1 g3
    exact Or.inl ⟨k1, g2, k2⟩
  · exact Or.inr g
theorem qu_Lx.A {D : va_G} {h : zz_H} {ow : Nat → Nat × Nat} {tag : Nat × Nat} {L n ar cap : Nat} {el : Nat → Nat} {mc : Int32} {f : Nat → Option Nat} (H : qu_Lx D h ow tag L n el mc ar cap f) (hany : ∀ i : Nat, i < n → zz_any D h (el i)) : li_A D h ar n cap f := by
  obtain ⟨h1, h2, h3, h4, h5, h6⟩ := H
  refine ⟨?_, h3, h4, h5, ?_⟩
  · rcases h2 with ⟨g1, g2, -⟩ | g
    · exact Or.inl ⟨g1, g2⟩
    · exact Or.inr g
  · intro t ht x hx
    by_cases hn : t < n
    · rw [h6 t hn] at hx
      cases hx
      exact hany t hn
    · rw [h5 t (by omega)] at hx
      cases hx
theorem qu_Lx.T {D : va_G} {h : zz_H} {ow : Nat → Nat × Nat} {tag : Nat × Nat} {L n ar cap k : Nat} {el : Nat → Nat} {mc : Int32} {f : Nat → Option Nat} (H : qu_Lx D h ow tag L n el mc ar cap f) (hk : k < n) : h ar = some (li_T D cap f) := by
  obtain ⟨h1, h2, h3, h4, h5, h6⟩ := H
  rcases h2 with ⟨g1, -, -⟩ | ⟨-, g⟩
  · exact g1
  · omega
theorem qu_L.fr {D : va_G} {h h' : zz_H} {ow ow' : Nat → Nat × Nat} {tag : Nat × Nat} {L n : Nat} {el : Nat → Nat} (H : qu_L D h ow tag L n el) (hL : ∀ e, h L = some e → h' L = some e) (hA : ∀ y e, h y = some e → ow y = tag → h' y = some e ∧ ow' y = tag) : qu_L D h' ow' tag L n el := by
  obtain ⟨mc, ar, cap, f, h1⟩ := H
  exact ⟨mc, ar, cap, f, h1.fr hL hA⟩
theorem qu_L.un {D : va_G} {h : zz_H} {ow : Nat → Nat × Nat} {tag : Nat × Nat} {L n x : Nat} {e : va_E} {el : Nat → Nat} (H : qu_L D h ow tag L n el) (hL : L ≠ x) (ht : ow x ≠ tag) : qu_L D (zz_up h x e) ow tag L n el :=
  H.fr (fun _ he => (zz_un hL).trans he) (fun y _ he hy => ⟨(zz_un (fun g => ht ((congrArg ow g).symm.trans hy))).trans he, hy⟩)
theorem qu_Lx.cg {D : va_G} {h : zz_H} {ow : Nat → Nat × Nat} {tag : Nat × Nat} {L n ar cap : Nat} {el el' : Nat → Nat} {mc : Int32} {f : Nat → Option Nat} (H : qu_Lx D h ow tag L n el mc ar cap f) (he : ∀ i : Nat, i < n → el' i = el i) : qu_Lx D h ow tag L n el' mc ar cap f := by
  obtain ⟨h1, h2, h3, h4, h5, h6⟩ := H
  exact ⟨h1, h2, h3, h4, h5, fun i hi => (h6 i hi).trans (by rw [he i hi])⟩
theorem qu_L.cg {D : va_G} {h : zz_H} {ow : Nat → Nat × Nat} {tag : Nat × Nat} {L n : Nat} {el el' : Nat → Nat} (H : qu_L D h ow tag L n el) (he : ∀ i : Nat, i < n → el' i = el i) : qu_L D h ow tag L n el' := by
  obtain ⟨mc, ar, cap, f, h1⟩ := H
  exact ⟨mc, ar, cap, f, h1.cg he⟩
/-- the roles of a quarry: 0 itself, 1 settings, 2 front, 3 rear, 4 load, 5 left, 6 blocks, 7 their table, 8 orders, 9 their table, 10.. each block, 40.. each order -/
def qu_ro (nb no i : Nat) : Prop := (1 ≤ i ∧ i ≤ 6) ∨ i = 8 ∨ (10 ≤ i ∧ i < 10 + nb) ∨ (40 ≤ i ∧ i < 40 + no)
/-- the quarry q is a picture of the state a: its addresses ad, the sizes sz of its blocks and (from 40 on) orders; ow: whose an address is -/
def qu_I (D : va_G) (h : zz_H) (ow : Nat → Nat × Nat) (q : Nat) (ad sz : Nat → Nat) (a : Nat → Int32) (nb no : Nat) : Prop :=
  h q = some (qu_C ad a) ∧ ow q = (q, 0) ∧ qu_A D h (ad 1) 4 a ∧ (∀ k : Nat, k < 4 → qu_A D h (ad (2 + k)) 3 (fun l => a (312 + 4 * l + k))) ∧
  qu_L D h ow (q, 7) (ad 6) nb (fun b => ad (10 + b)) ∧ qu_L D h ow (q, 9) (ad 8) no (fun o => ad (40 + o)) ∧
  (∀ b : Nat, b < nb → h (ad (10 + b)) = some (bl_F a b (sz b)) ∧ h (sz b) = some (bs_F a b) ∧ (ow (sz b)).1 = sz b) ∧
  (∀ o : Nat, o < no → h (ad (40 + o)) = some (or_F a o (sz (40 + o))) ∧ h (sz (40 + o)) = some (os_F a o) ∧ (ow (sz (40 + o))).1 = sz (40 + o)) ∧
  (∀ i : Nat, qu_ro nb no i → ow (ad i) = (q, i)) ∧ nb ≤ 30
section QI
variable {D : va_G} {h h' : zz_H} {ow ow' : Nat → Nat × Nat} {q : Nat} {ad sz : Nat → Nat} {a a' : Nat → Int32} {nb no : Nat}
theorem qu_I.gq (H : qu_I D h ow q ad sz a nb no) : h q = some (qu_C ad a) := H.1
theorem qu_I.oq (H : qu_I D h ow q ad sz a nb no) : ow q = (q, 0) := H.2.1
theorem qu_I.gs (H : qu_I D h ow q ad sz a nb no) : qu_A D h (ad 1) 4 a := H.2.2.1
theorem qu_I.gl (H : qu_I D h ow q ad sz a nb no) (k : Nat) (hk : k < 4) : qu_A D h (ad (2 + k)) 3 (fun l => a (312 + 4 * l + k)) := H.2.2.2.1 k hk
theorem qu_I.gL (H : qu_I D h ow q ad sz a nb no) : qu_L D h ow (q, 7) (ad 6) nb (fun b => ad (10 + b)) := H.2.2.2.2.1
theorem qu_I.gO (H : qu_I D h ow q ad sz a nb no) : qu_L D h ow (q, 9) (ad 8) no (fun o => ad (40 + o)) := H.2.2.2.2.2.1
theorem qu_I.gb (H : qu_I D h ow q ad sz a nb no) {b : Nat} (hb : b < nb) : h (ad (10 + b)) = some (bl_F a b (sz b)) := (H.2.2.2.2.2.2.1 b hb).1
theorem qu_I.gz (H : qu_I D h ow q ad sz a nb no) {b : Nat} (hb : b < nb) : h (sz b) = some (bs_F a b) := (H.2.2.2.2.2.2.1 b hb).2.1
theorem qu_I.ozb (H : qu_I D h ow q ad sz a nb no) {b : Nat} (hb : b < nb) : (ow (sz b)).1 = sz b := (H.2.2.2.2.2.2.1 b hb).2.2
theorem qu_I.go (H : qu_I D h ow q ad sz a nb no) {o : Nat} (ho : o < no) : h (ad (40 + o)) = some (or_F a o (sz (40 + o))) := (H.2.2.2.2.2.2.2.1 o ho).1
theorem qu_I.oz (H : qu_I D h ow q ad sz a nb no) {o : Nat} (ho : o < no) : h (sz (40 + o)) = some (os_F a o) := (H.2.2.2.2.2.2.2.1 o ho).2.1
theorem qu_I.gw (H : qu_I D h ow q ad sz a nb no) {i : Nat} (hi : qu_ro nb no i) : ow (ad i) = (q, i) := H.2.2.2.2.2.2.2.2.1 i hi
theorem qu_I.nb30 (H : qu_I D h ow q ad sz a nb no) : nb ≤ 30 := H.2.2.2.2.2.2.2.2.2
/-- from heap to heap: what is the quarry's, and the sizes, are as they were -/
theorem qu_I.fr (H : qu_I D h ow q ad sz a nb no) (hf : ∀ y e, h y = some e → ((ow y).1 = q ∨ ∃ fs, e = .inr (4, fs)) → h' y = some e ∧ ow' y = ow y) : qu_I D h' ow' q ad sz a nb no := by
  obtain ⟨g1, g2, g3, g4, g5, g6, g7, g8, g9, g10⟩ := H
  have key : ∀ i : Nat, qu_ro nb no i → ∀ e, h (ad i) = some e → h' (ad i) = some e := fun i hi e he => (hf _ _ he (Or.inl (by rw [g9 i hi]))).1
  have tab : ∀ t : Nat, ∀ y e, h y = some e → ow y = (q, t) → h' y = some e ∧ ow' y = (q, t) := fun t y e he hy => by
    obtain ⟨k1, k2⟩ := hf y e he (Or.inl (by rw [hy]))
    exact ⟨k1, k2.trans hy⟩
  have ex : ∀ i : Nat, qu_ro nb no i → ∀ e, h (ad i) = some e → ow' (ad i) = (q, i) := fun i hi e he => ((hf _ _ he (Or.inl (by rw [g9 i hi]))).2).trans (g9 i hi)
  refine ⟨(hf _ _ g1 (Or.inl (by rw [g2]))).1, ((hf _ _ g1 (Or.inl (by rw [g2]))).2).trans g2, g3.fr (key 1 (Or.inl ⟨by decide, by decide⟩)), fun k hk => (g4 k hk).fr (key (2 + k) (Or.inl ⟨by omega, by omega⟩)), g5.fr (key 6 (Or.inl ⟨by decide, by decide⟩)) (tab 7), g6.fr (key 8 (Or.inr (Or.inl rfl))) (tab 9), ?_, ?_, ?_, g10⟩
  · intro b hb
    obtain ⟨k1, k2, k3⟩ := g7 b hb
    obtain ⟨k4, k5⟩ := hf _ _ k2 (Or.inr ⟨_, rfl⟩)
    exact ⟨key _ (Or.inr (Or.inr (Or.inl ⟨by omega, by omega⟩))) _ k1, k4, by rw [k5]; exact k3⟩
  · intro o ho
    obtain ⟨k1, k2, k3⟩ := g8 o ho
    obtain ⟨k4, k5⟩ := hf _ _ k2 (Or.inr ⟨_, rfl⟩)
    exact ⟨key _ (Or.inr (Or.inr (Or.inr ⟨by omega, by omega⟩))) _ k1, k4, by rw [k5]; exact k3⟩
  · intro i hi
    rcases hi with ⟨i1, i2⟩ | hi | ⟨i1, i2⟩ | ⟨i1, i2⟩
    · have : i = 1 ∨ (∃ k, k < 4 ∧ i = 2 + k) ∨ i = 6 := by
        by_cases h1 : i = 1
        · exact Or.inl h1
        · by_cases h6 : i = 6
          · exact Or.inr (Or.inr h6)
          · exact Or.inr (Or.inl ⟨i - 2, by omega, by omega⟩)
      rcases this with rfl | ⟨k, hk, rfl⟩ | rfl
      · obtain ⟨f, k1, -⟩ := g3
        exact ex 1 (Or.inl ⟨i1, i2⟩) _ k1
      · obtain ⟨f, k1, -⟩ := g4 k hk
        exact ex _ (Or.inl ⟨i1, i2⟩) _ k1
      · obtain ⟨mc, ar, cap, f, k1, -⟩ := g5
        exact ex 6 (Or.inl ⟨i1, i2⟩) _ k1
    · subst hi
      obtain ⟨mc, ar, cap, f, k1, -⟩ := g6
      exact ex 8 (Or.inr (Or.inl rfl)) _ k1
    · obtain ⟨b, rfl⟩ : ∃ b, i = 10 + b := ⟨i - 10, by omega⟩
      exact ex _ (Or.inr (Or.inr (Or.inl ⟨i1, i2⟩))) _ (g7 b (by omega)).1
    · obtain ⟨o, rfl⟩ : ∃ o, i = 40 + o := ⟨i - 40, by omega⟩
      exact ex _ (Or.inr (Or.inr (Or.inr ⟨i1, i2⟩))) _ (g8 o (by omega)).1
/-- what a change of the quarry q leaves as it was -/
def qu_F (q : Nat) (h : zz_H) (ow : Nat → Nat × Nat) (h' : zz_H) (ow' : Nat → Nat × Nat) : Prop := ∀ (y : Nat) (e : va_E), h y = some e → (ow y).1 ≠ q → h' y = some e ∧ ow' y = ow y
theorem qu_F.rf : qu_F q h ow h ow := fun _ _ he _ => ⟨he, rfl⟩
theorem qu_F.tr {h2 : zz_H} {ow2 : Nat → Nat × Nat} (f : qu_F q h ow h' ow') (g : qu_F q h' ow' h2 ow2) : qu_F q h ow h2 ow2 := fun y e he hy => by
  obtain ⟨k1, k2⟩ := f y e he hy
  obtain ⟨k3, k4⟩ := g y e k1 (by rw [k2]; exact hy)
  exact ⟨k3, k4.trans k2⟩
theorem qu_F.up {x : Nat} {e : va_E} (hx : (ow x).1 = q) : qu_F q h ow (zz_up h x e) ow := fun _ _ he hy => ⟨(zz_un (fun g => hy ((congrArg (fun z => (ow z).1) g).trans hx))).trans he, rfl⟩
theorem qu_F.nw {x : Nat} {e : va_E} (hx : h x = none) : qu_F q h ow (zz_up h x e) ow := fun _ _ he _ => ⟨zz_uf he hx, rfl⟩
theorem qu_F.nwo {x : Nat} {e : va_E} {t : Nat × Nat} (hx : h x = none) : qu_F q h ow (zz_up h x e) (fun y => if y = x then t else ow y) := fun y _ he _ => ⟨zz_uf he hx, if_neg (fun g => by rw [g, hx] at he; cases he)⟩
/-- another quarry -/
theorem qu_I.ot {q2 : Nat} {ci : Nat} {fs : List Value} (H : qu_I D h ow q2 ad sz a nb no) (hF : qu_F q h ow h' ow') (hne : q2 ≠ q) (hq : h q = some (.inr (ci, fs))) (hci : ci ≠ 4) : qu_I D h' ow' q2 ad sz a nb no := by
  have hz : ∀ y, (ow y).1 = y → ∀ fs', h y = some (.inr (4, fs')) → h' y = some (.inr (4, fs')) ∧ ow' y = ow y := fun y hy fs' he => hF y _ he (by
    rw [hy]
    exact zz_cc he hq (Ne.symm hci))
  obtain ⟨g1, g2, g3, g4, g5, g6, g7, g8, g9, g10⟩ := H
  let hh : zz_H := fun y => if (ow y).1 = q2 ∨ (ow y).1 = y then h y else none
  have sub : ∀ y e, hh y = some e → h y = some e := fun y e he => by
    by_cases hc : (ow y).1 = q2 ∨ (ow y).1 = y
    · rw [show hh y = h y from if_pos hc] at he; exact he
    · rw [show hh y = none from if_neg hc] at he; cases he
  have inn : ∀ y e, h y = some e → ((ow y).1 = q2 ∨ (ow y).1 = y) → hh y = some e := fun y e he hc => (if_pos hc).trans he
  have H2 : qu_I D hh ow q2 ad sz a nb no := by
    have k2 : ∀ i, qu_ro nb no i → ∀ e, h (ad i) = some e → hh (ad i) = some e := fun i hi e he => inn _ _ he (Or.inl (by rw [g9 i hi]))
    refine ⟨inn _ _ g1 (Or.inl (by rw [g2])), g2, g3.fr (k2 1 (Or.inl ⟨by decide, by decide⟩)), fun k hk => (g4 k hk).fr (k2 _ (Or.inl ⟨by omega, by omega⟩)), g5.fr (k2 6 (Or.inl ⟨by decide, by decide⟩)) (fun y e he hy => ⟨inn _ _ he (Or.inl (by rw [hy])), hy⟩), g6.fr (k2 8 (Or.inr (Or.inl rfl))) (fun y e he hy => ⟨inn _ _ he (Or.inl (by rw [hy])), hy⟩), ?_, ?_, g9, g10⟩
    · intro b hb
      obtain ⟨m1, m2, m3⟩ := g7 b hb
      exact ⟨k2 _ (Or.inr (Or.inr (Or.inl ⟨by omega, by omega⟩))) _ m1, inn _ _ m2 (Or.inr m3), m3⟩
    · intro o ho
      obtain ⟨m1, m2, m3⟩ := g8 o ho
      exact ⟨k2 _ (Or.inr (Or.inr (Or.inr ⟨by omega, by omega⟩))) _ m1, inn _ _ m2 (Or.inr m3), m3⟩
  refine H2.fr (fun y e he hy => ?_)
  have he0 := sub y e he
  rcases hy with hy | ⟨fs', rfl⟩
  · exact hF y e he0 (by rw [hy]; exact hne)
  · by_cases hyy : (ow y).1 = y
    · exact hz y hyy _ he0
    · have hc : (ow y).1 = q2 := by
        by_cases hc : (ow y).1 = q2 ∨ (ow y).1 = y
        · exact hc.resolve_right hyy
        · rw [show hh y = none from if_neg hc] at he; cases he
      exact hF y _ he0 (by rw [hc]; exact hne)
theorem qu_t {q i j : Nat} (hij : i ≠ j) : ((q, i) : Nat × Nat) ≠ (q, j) := fun e => hij (congrArg Prod.snd e)
/-- the state elsewhere does not matter -/
theorem qu_I.cg (H : qu_I D h ow q ad sz a nb no) (h12 : ∀ j : Nat, j < 12 → j ≠ 5 → j ≠ 6 → a' j = a j) (hb : ∀ b k : Nat, b < nb → k < 10 → a' (12 + 10 * b + k) = a (12 + 10 * b + k)) (ho : ∀ o k : Nat, o < no → k < 6 → a' (252 + 6 * o + k) = a (252 + 6 * o + k)) (hl : ∀ j : Nat, 312 ≤ j → j < 324 → a' j = a j) : qu_I D h ow q ad sz a' nb no := by
  obtain ⟨g1, g2, g3, g4, g5, g6, g7, g8, g9, g10⟩ := H
  refine ⟨?_, g2, g3.cg (fun k hk => h12 k (by omega) (by omega) (by omega)), fun k hk => (g4 k hk).cg (fun l hl2 => hl _ (by omega) (by omega)), g5, g6, ?_, ?_, g9, g10⟩
  · rw [qc_cg (a := a) (fun k h1 h2 h3 h4 => h12 k h2 h3 h4)]; exact g1
  · intro b hbb
    rw [bl_cg (a := a) (fun k _ hk => hb b k hbb hk), bs_cg (a := a) (fun k hk => hb b k hbb (by omega))]
    exact g7 b hbb
  · intro o hoo
    rw [or_cg (a := a) (fun k _ hk => ho o k hoo hk), os_cg (a := a) (fun k hk => ho o k hoo (by omega))]
    exact g8 o hoo
theorem qu_I.cg3 (H : qu_I D h ow q ad sz a nb no) (hb24 : nb ≤ 24) (ho10 : no ≤ 10) (e : ∀ j : Nat, j < 324 → a' j = a j) : qu_I D h ow q ad sz a' nb no := H.cg (fun j hj _ _ => e j (by omega)) (fun b k hb hk => e _ (by omega)) (fun o k ho hk => e _ (by omega)) (fun j _ hj => e j hj)
/-- a block's fields are changed -/
theorem qu_I.ub (H : qu_I D h ow q ad sz a nb no) {b : Nat} (hb : b < nb) (hnb : nb ≤ 24) (e : ∀ j : Nat, (j < 12 + 10 * b + 4 ∨ 12 + 10 * b + 9 ≤ j) → a' j = a j) : qu_I D (zz_up h (ad (10 + b)) (bl_F a' b (sz b))) ow q ad sz a' nb no := by
  obtain ⟨g1, g2, g3, g4, g5, g6, g7, g8, g9, g10⟩ := H
  have hx : ow (ad (10 + b)) = (q, 10 + b) := g9 _ (Or.inr (Or.inr (Or.inl ⟨by omega, by omega⟩)))
  have ne : ∀ {y i : Nat}, ow y = (q, i) → i ≠ 10 + b → y ≠ ad (10 + b) := fun hy hi g => hi (congrArg Prod.snd (hy.symm.trans ((congrArg ow g).trans hx)))
  refine ⟨?_, g2, ?_, ?_, ?_, ?_, ?_, ?_, g9, g10⟩
  · rw [qc_cg (a := a) (fun k h1 h2 h3 h4 => e k (by omega)), zz_un (ne g2 (by omega))]; exact g1
  · exact (g3.un (ne (g9 1 (Or.inl ⟨by decide, by decide⟩)) (by omega))).cg (fun k hk => e k (by omega))
  · exact fun k hk => ((g4 k hk).un (ne (g9 (2 + k) (Or.inl ⟨by omega, by omega⟩)) (by omega))).cg (fun l hl => e _ (by omega))
  · exact g5.un (ne (g9 6 (Or.inl ⟨by decide, by decide⟩)) (by omega)) (by rw [hx]; exact qu_t (by omega))
  · exact g6.un (ne (g9 8 (Or.inr (Or.inl rfl))) (by omega)) (by rw [hx]; exact qu_t (by omega))
  · intro c hc
    obtain ⟨k1, k2, k3⟩ := g7 c hc
    have hz : sz c ≠ ad (10 + b) := zz_cc k2 (g7 b hb).1 (by decide)
    by_cases hcb : c = b
    · subst hcb
      exact ⟨zz_us, by rw [bs_cg (a := a) (b := c) (fun k hk => e _ (by omega)), zz_un hz]; exact k2, k3⟩
    · exact ⟨by rw [bl_cg (a := a) (b := c) (fun k _ hk => e _ (by omega)), zz_un (ne (g9 _ (Or.inr (Or.inr (Or.inl ⟨by omega, by omega⟩)))) (by omega))]; exact k1, by rw [bs_cg (a := a) (b := c) (fun k hk => e _ (by omega)), zz_un hz]; exact k2, k3⟩
  · intro o ho
    obtain ⟨k1, k2, k3⟩ := g8 o ho
    have hz : sz (40 + o) ≠ ad (10 + b) := zz_cc k2 (g7 b hb).1 (by decide)
    exact ⟨by rw [or_cg (a := a) (o := o) (fun k _ hk => e _ (by omega)), zz_un (ne (g9 _ (Or.inr (Or.inr (Or.inr ⟨by omega, by omega⟩)))) (by omega))]; exact k1, by rw [os_cg (a := a) (o := o) (fun k hk => e _ (by omega)), zz_un hz]; exact k2, k3⟩
/-- an order's fields are changed -/
theorem qu_I.uo (H : qu_I D h ow q ad sz a nb no) {o : Nat} (ho : o < no) (hnb : nb ≤ 24) (hno : no ≤ 10) (e : ∀ j : Nat, (j < 252 + 6 * o + 3 ∨ 252 + 6 * o + 6 ≤ j) → a' j = a j) : qu_I D (zz_up h (ad (40 + o)) (or_F a' o (sz (40 + o)))) ow q ad sz a' nb no := by
  obtain ⟨g1, g2, g3, g4, g5, g6, g7, g8, g9, g10⟩ := H
  have hx : ow (ad (40 + o)) = (q, 40 + o) := g9 _ (Or.inr (Or.inr (Or.inr ⟨by omega, by omega⟩)))
  have ne : ∀ {y i : Nat}, ow y = (q, i) → i ≠ 40 + o → y ≠ ad (40 + o) := fun hy hi g => hi (congrArg Prod.snd (hy.symm.trans ((congrArg ow g).trans hx)))
  refine ⟨?_, g2, ?_, ?_, ?_, ?_, ?_, ?_, g9, g10⟩
  · rw [qc_cg (a := a) (fun k h1 h2 h3 h4 => e k (by omega)), zz_un (ne g2 (by omega))]; exact g1
  · exact (g3.un (ne (g9 1 (Or.inl ⟨by decide, by decide⟩)) (by omega))).cg (fun k hk => e k (by omega))
  · exact fun k hk => ((g4 k hk).un (ne (g9 (2 + k) (Or.inl ⟨by omega, by omega⟩)) (by omega))).cg (fun l hl => e _ (by omega))
  · exact g5.un (ne (g9 6 (Or.inl ⟨by decide, by decide⟩)) (by omega)) (by rw [hx]; exact qu_t (by omega))
  · exact g6.un (ne (g9 8 (Or.inr (Or.inl rfl))) (by omega)) (by rw [hx]; exact qu_t (by omega))
  · intro c hc
    obtain ⟨k1, k2, k3⟩ := g7 c hc
    have hz : sz c ≠ ad (40 + o) := zz_cc k2 (g8 o ho).1 (by decide)
    exact ⟨by rw [bl_cg (a := a) (b := c) (fun k _ hk => e _ (by omega)), zz_un (ne (g9 _ (Or.inr (Or.inr (Or.inl ⟨by omega, by omega⟩)))) (by omega))]; exact k1, by rw [bs_cg (a := a) (b := c) (fun k hk => e _ (by omega)), zz_un hz]; exact k2, k3⟩
  · intro c hc
    obtain ⟨k1, k2, k3⟩ := g8 c hc
    have hz : sz (40 + c) ≠ ad (40 + o) := zz_cc k2 (g8 o ho).1 (by decide)
    by_cases hcb : c = o
    · subst hcb
      exact ⟨zz_us, by rw [os_cg (a := a) (o := c) (fun k hk => e _ (by omega)), zz_un hz]; exact k2, k3⟩
    · exact ⟨by rw [or_cg (a := a) (o := c) (fun k _ hk => e _ (by omega)), zz_un (ne (g9 _ (Or.inr (Or.inr (Or.inr ⟨by omega, by omega⟩)))) (by omega))]; exact k1, by rw [os_cg (a := a) (o := c) (fun k hk => e _ (by omega)), zz_un hz]; exact k2, k3⟩
/-- the quarry's own numbers are changed -/
theorem qu_I.uq (H : qu_I D h ow q ad sz a nb no) (hnb : nb ≤ 24) (hno : no ≤ 10) (e : ∀ j : Nat, (j < 4 ∨ 12 ≤ j) → a' j = a j) : qu_I D (zz_up h q (qu_C ad a')) ow q ad sz a' nb no := by
  obtain ⟨g1, g2, g3, g4, g5, g6, g7, g8, g9, g10⟩ := H
  have ne : ∀ {y i : Nat}, ow y = (q, i) → i ≠ 0 → y ≠ q := fun hy hi g => hi (congrArg Prod.snd (hy.symm.trans ((congrArg ow g).trans g2)))
  refine ⟨zz_us, g2, ?_, ?_, ?_, ?_, ?_, ?_, g9, g10⟩
  · exact (g3.un (ne (g9 1 (Or.inl ⟨by decide, by decide⟩)) (by omega))).cg (fun k hk => e k (by omega))
  · exact fun k hk => ((g4 k hk).un (ne (g9 (2 + k) (Or.inl ⟨by omega, by omega⟩)) (by omega))).cg (fun l hl => e _ (by omega))
  · exact g5.un (ne (g9 6 (Or.inl ⟨by decide, by decide⟩)) (by omega)) (by rw [g2]; exact qu_t (by omega))
  · exact g6.un (ne (g9 8 (Or.inr (Or.inl rfl))) (by omega)) (by rw [g2]; exact qu_t (by omega))
  · intro c hc
    obtain ⟨k1, k2, k3⟩ := g7 c hc
    have hz : sz c ≠ q := zz_cc k2 g1 (by decide)
    exact ⟨by rw [bl_cg (a := a) (b := c) (fun k _ hk => e _ (by omega)), zz_un (ne (g9 _ (Or.inr (Or.inr (Or.inl ⟨by omega, by omega⟩)))) (by omega))]; exact k1, by rw [bs_cg (a := a) (b := c) (fun k hk => e _ (by omega)), zz_un hz]; exact k2, k3⟩
  · intro c hc
    obtain ⟨k1, k2, k3⟩ := g8 c hc
    have hz : sz (40 + c) ≠ q := zz_cc k2 g1 (by decide)
    exact ⟨by rw [or_cg (a := a) (o := c) (fun k _ hk => e _ (by omega)), zz_un (ne (g9 _ (Or.inr (Or.inr (Or.inr ⟨by omega, by omega⟩)))) (by omega))]; exact k1, by rw [os_cg (a := a) (o := c) (fun k hk => e _ (by omega)), zz_un hz]; exact k2, k3⟩
/-- an array of the quarry is changed: 1 its settings, 2 .. 5 what lorries have -/
theorem qu_I.ua (H : qu_I D h ow q ad sz a nb no) (hnb : nb ≤ 24) (hno : no ≤ 10) {i n : Nat} {f : Nat → Int32} (h1 : 1 ≤ i) (h5 : i ≤ 5) (hn : n = if i = 1 then 4 else 3) (hf : ∀ k : Nat, k < n → f k = if i = 1 then a' k else a' (312 + 4 * k + (i - 2))) (e : ∀ j : Nat, (4 ≤ j ∧ j < 312) → a' j = a j) (e1 : i ≠ 1 → ∀ j : Nat, j < 4 → a' j = a j) (e2 : ∀ l k : Nat, k < 4 → i ≠ 2 + k → a' (312 + 4 * l + k) = a (312 + 4 * l + k)) : qu_I D (zz_up h (ad i) (.inl (D.1 100, n, .inl f))) ow q ad sz a' nb no := by
  obtain ⟨g1, g2, g3, g4, g5, g6, g7, g8, g9, g10⟩ := H
  have hx : ow (ad i) = (q, i) := g9 _ (Or.inl ⟨by omega, by omega⟩)
  have hxx : ∃ f0 : Nat → Int32, ∃ n0 : Nat, h (ad i) = some (.inl (D.1 100, n0, .inl f0)) := by
    by_cases hi : i = 1
    · subst hi
      obtain ⟨f0, k0, -⟩ := g3
      exact ⟨f0, 4, k0⟩
    · obtain ⟨f0, k0, -⟩ := g4 (i - 2) (by omega)
      rw [show 2 + (i - 2) = i by omega] at k0
      exact ⟨f0, 3, k0⟩
  obtain ⟨f0, n0, hxx⟩ := hxx
  have ne : ∀ {y j : Nat}, ow y = (q, j) → j ≠ i → y ≠ ad i := fun hy hi g => hi (congrArg Prod.snd (hy.symm.trans ((congrArg ow g).trans hx)))
  refine ⟨?_, g2, ?_, ?_, ?_, ?_, ?_, ?_, g9, g10⟩
  · rw [qc_cg (a := a) (fun k h1 h2 h3 h4 => e k (by omega)), zz_un (ne g2 (by omega))]; exact g1
  · by_cases hi : i = 1
    · subst hi
      rw [if_pos rfl] at hn
      subst hn
      exact ⟨f, zz_us, fun k hk => (hf k hk).trans (if_pos rfl)⟩
    · exact (g3.un (ne (g9 1 (Or.inl ⟨by decide, by decide⟩)) (by omega))).cg (fun k hk => e1 hi k hk)
  · intro k hk
    by_cases hi : i = 2 + k
    · subst hi
      rw [if_neg (by omega)] at hn
      subst hn
      exact ⟨f, zz_us, fun j hj => (hf j hj).trans (by rw [if_neg (by omega), show 2 + k - 2 = k by omega])⟩
    · exact ((g4 k hk).un (ne (g9 (2 + k) (Or.inl ⟨by omega, by omega⟩)) (Ne.symm hi))).cg (fun l hl => e2 l k hk hi)
  · exact g5.un (ne (g9 6 (Or.inl ⟨by decide, by decide⟩)) (by omega)) (by rw [hx]; exact qu_t (by omega))
  · exact g6.un (ne (g9 8 (Or.inr (Or.inl rfl))) (by omega)) (by rw [hx]; exact qu_t (by omega))
  · intro c hc
    obtain ⟨k1, k2, k3⟩ := g7 c hc
    have hz : sz c ≠ ad i := zz_xi k2 hxx
    exact ⟨by rw [bl_cg (a := a) (b := c) (fun k _ hk => e _ (by omega)), zz_un (ne (g9 _ (Or.inr (Or.inr (Or.inl ⟨by omega, by omega⟩)))) (by omega))]; exact k1, by rw [bs_cg (a := a) (b := c) (fun k hk => e _ (by omega)), zz_un hz]; exact k2, k3⟩
  · intro c hc
    obtain ⟨k1, k2, k3⟩ := g8 c hc
    have hz : sz (40 + c) ≠ ad i := zz_xi k2 hxx
    exact ⟨by rw [or_cg (a := a) (o := c) (fun k _ hk => e _ (by omega)), zz_un (ne (g9 _ (Or.inr (Or.inr (Or.inr ⟨by omega, by omega⟩)))) (by omega))]; exact k1, by rw [os_cg (a := a) (o := c) (fun k hk => e _ (by omega)), zz_un hz]; exact k2, k3⟩
/-- something new in the heap -/
theorem qu_I.nw (H : qu_I D h ow q ad sz a nb no) {x : Nat} {e : va_E} (hx : h x = none) : qu_I D (zz_up h x e) ow q ad sz a nb no := H.fr (fun _ _ he _ => ⟨zz_uf he hx, rfl⟩)
theorem qu_I.nwo (H : qu_I D h ow q ad sz a nb no) {x : Nat} {e : va_E} {t : Nat × Nat} (hx : h x = none) : qu_I D (zz_up h x e) (fun y => if y = x then t else ow y) q ad sz a nb no := H.fr (fun y _ he _ => ⟨zz_uf he hx, if_neg (fun g => by rw [g, hx] at he; cases he)⟩)
end QI
