/-! what a copy leaves as it was -/
def cp_F (h : zz_H) (ow : Nat → Nat × Nat) (h' : zz_H) (ow' : Nat → Nat × Nat) : Prop := ∀ (y : Nat) (e : va_E), h y = some e → h (ow y).1 ≠ none → h' y = some e ∧ ow' y = ow y
section QI
variable {D : va_G} {h h' h2 : zz_H} {ow ow' ow2 : Nat → Nat × Nat} {q : Nat} {ad sz : Nat → Nat} {a a' : Nat → Int32} {nb no : Nat}
theorem cp_F.rf : cp_F h ow h ow := fun _ _ he _ => ⟨he, rfl⟩
theorem cp_F.nw {x : Nat} {e : va_E} {t : Nat × Nat} (F : cp_F h ow h' ow') (hx : h' x = none) : cp_F h ow (zz_up h' x e) (fun y => if y = x then t else ow' y) := fun y e' he hr => by
  obtain ⟨k1, k2⟩ := F y e' he hr
  have hn : y ≠ x := zz_nf k1 hx
  exact ⟨(zz_un hn).trans k1, (if_neg hn).trans k2⟩
theorem cp_F.un {x : Nat} {e : va_E} (F : cp_F h ow h' ow') (hx : ∀ y e', h y = some e' → h (ow y).1 ≠ none → y ≠ x) : cp_F h ow (zz_up h' x e) ow' := fun y e' he hr => ⟨(zz_un (hx y e' he hr)).trans (F y e' he hr).1, (F y e' he hr).2⟩
theorem cp_F.ni {x : Nat} (F : cp_F h ow h' ow') (hx : h' x = none) : ∀ y e', h y = some e' → h (ow y).1 ≠ none → y ≠ x := fun y e' he hr => zz_nf (F y e' he hr).1 hx
/-- then a change of r, which was not there -/
theorem cp_F.F {r : Nat} (F : cp_F h ow h' ow') (hr : h r = none) (G : qu_F r h' ow' h2 ow2) : cp_F h ow h2 ow2 := fun y e he hy => by
  obtain ⟨k1, k2⟩ := F y e he hy
  obtain ⟨k3, k4⟩ := G y e k1 (by rw [k2]; exact fun g => hy (by rw [g]; exact hr))
  exact ⟨k3, k4.trans k2⟩
theorem qu_I.res (H : qu_I D h ow q ad sz a nb no) : qu_I D (fun y => if (ow y).1 = q ∨ (ow y).1 = y then h y else none) ow q ad sz a nb no := by
  obtain ⟨g1, g2, g3, g4, g5, g6, g7, g8, g9, g10⟩ := H
  have inn : ∀ y e, h y = some e → ((ow y).1 = q ∨ (ow y).1 = y) → (fun y => if (ow y).1 = q ∨ (ow y).1 = y then h y else none : zz_H) y = some e := fun y e he hc => (if_pos hc).trans he
  have k2 : ∀ i, qu_ro nb no i → ∀ e, h (ad i) = some e → (fun y => if (ow y).1 = q ∨ (ow y).1 = y then h y else none : zz_H) (ad i) = some e := fun i hi e he => inn _ _ he (Or.inl (by rw [g9 i hi]))
  refine ⟨inn _ _ g1 (Or.inl (by rw [g2])), g2, g3.fr (k2 1 (Or.inl ⟨by decide, by decide⟩)), fun k hk => (g4 k hk).fr (k2 _ (Or.inl ⟨by omega, by omega⟩)), g5.fr (k2 6 (Or.inl ⟨by decide, by decide⟩)) (fun y e he hy => ⟨inn _ _ he (Or.inl (by rw [hy])), hy⟩), g6.fr (k2 8 (Or.inr (Or.inl rfl))) (fun y e he hy => ⟨inn _ _ he (Or.inl (by rw [hy])), hy⟩), ?_, ?_, g9, g10⟩
  · intro b hb
    obtain ⟨m1, m2, m3⟩ := g7 b hb
    exact ⟨k2 _ (Or.inr (Or.inr (Or.inl ⟨by omega, by omega⟩))) _ m1, inn _ _ m2 (Or.inr m3), m3⟩
  · intro o ho
    obtain ⟨m1, m2, m3⟩ := g8 o ho
    exact ⟨k2 _ (Or.inr (Or.inr (Or.inr ⟨by omega, by omega⟩))) _ m1, inn _ _ m2 (Or.inr m3), m3⟩
/-- from heap to heap: what has the quarry's tags, or its own -/
theorem qu_I.fr2 (H : qu_I D h ow q ad sz a nb no) (hf : ∀ y e, h y = some e → ((ow y).1 = q ∨ (ow y).1 = y) → h' y = some e ∧ ow' y = ow y) : qu_I D h' ow' q ad sz a nb no := H.res.fr (fun y e he _ => by
  by_cases hc : (ow y).1 = q ∨ (ow y).1 = y
  · rw [if_pos hc] at he
    exact hf y e he hc
  · rw [if_neg hc] at he
    cases he)
theorem qu_I.cp (H : qu_I D h ow q ad sz a nb no) (F : cp_F h ow h' ow') : qu_I D h' ow' q ad sz a nb no := H.fr2 (fun y e he hy => F y e he (by
  rcases hy with e1 | e1
  · rw [e1, H.gq]; exact fun g => by cases g
  · rw [e1, he]; exact fun g => by cases g))
theorem cp_F.A (F : cp_F h ow h' ow') (H : qu_I D h ow q ad sz a nb no) {y i : Nat} {e : va_E} (he : h y = some e) (hy : ow y = (q, i)) : h' y = some e := (F y e he (by rw [hy]; show h q ≠ none; rw [H.gq]; exact fun g => by cases g)).1
/-- an array of the quarry is replaced -/
theorem qu_I.ra (H : qu_I D h ow q ad sz a nb no) (hnb : nb ≤ 24) (hno : no ≤ 10) {i n o : Nat} {f : Nat → Int32} (h1 : 1 ≤ i) (h5 : i ≤ 5) (ho : h o = none) (hn : n = if i = 1 then 4 else 3) (hf : ∀ k : Nat, k < n → f k = if i = 1 then a' k else a' (312 + 4 * k + (i - 2))) (e : ∀ j : Nat, (4 ≤ j ∧ j < 312) → a' j = a j) (e1 : i ≠ 1 → ∀ j : Nat, j < 4 → a' j = a j) (e2 : ∀ l k : Nat, k < 4 → i ≠ 2 + k → a' (312 + 4 * l + k) = a (312 + 4 * l + k)) : qu_I D (zz_up (zz_up h o (.inl (D.1 100, n, .inl f))) q (qu_C (adU ad i o) a)) (fun y => if y = o then (q, i) else ow y) q (adU ad i o) sz a' nb no := by
  obtain ⟨g1, g2, g3, g4, g5, g6, g7, g8, g9, g10⟩ := H
  have hoq : o ≠ q := fun g => by rw [g, g1] at ho; cases ho
  have keep : ∀ y e', h y = some e' → y ≠ q → zz_up (zz_up h o (.inl (D.1 100, n, .inl f))) q (qu_C (adU ad i o) a) y = some e' ∧ (if y = o then (q, i) else ow y : Nat × Nat) = ow y := fun y e' he hy => by
    have hyo : y ≠ o := zz_nf he ho
    exact ⟨by rw [zz_un hy, zz_un hyo]; exact he, if_neg hyo⟩
  have nq : ∀ {y j : Nat}, ow y = (q, j) → j ≠ 0 → y ≠ q := fun hy hi g => hi (congrArg Prod.snd (hy.symm.trans ((congrArg ow g).trans g2)))
  have keep2 : ∀ j : Nat, qu_ro nb no j → ∀ e', h (ad j) = some e' → zz_up (zz_up h o (.inl (D.1 100, n, .inl f))) q (qu_C (adU ad i o) a) (ad j) = some e' := fun j hj e' he => (keep _ e' he (nq (g9 j hj) (by unfold qu_ro at hj; omega))).1
  have tab : ∀ t : Nat, t ≠ 0 → ∀ y e', h y = some e' → ow y = (q, t) → zz_up (zz_up h o (.inl (D.1 100, n, .inl f))) q (qu_C (adU ad i o) a) y = some e' ∧ (if y = o then (q, i) else ow y : Nat × Nat) = (q, t) := fun t ht y e' he hy => by
    obtain ⟨k1, k2⟩ := keep y e' he (nq hy ht)
    exact ⟨k1, k2.trans hy⟩
  have keepz : ∀ y e', h y = some e' → (ow y).1 = y → (∃ fs, e' = .inr (4, fs)) → zz_up (zz_up h o (.inl (D.1 100, n, .inl f))) q (qu_C (adU ad i o) a) y = some e' ∧ ((if y = o then (q, i) else ow y : Nat × Nat)).1 = y := by
    rintro y e' he h1 ⟨fs, rfl⟩
    obtain ⟨k1, k2⟩ := keep y _ he (zz_cc he g1 (by decide))
    exact ⟨k1, by rw [k2]; exact h1⟩
  have new : zz_up (zz_up h o (.inl (D.1 100, n, .inl f))) q (qu_C (adU ad i o) a) o = some (.inl (D.1 100, n, .inl f)) := by rw [zz_un hoq]; exact zz_us
  refine ⟨?_, ?_, ?_, ?_, ?_, ?_, ?_, ?_, ?_, g10⟩
  · rw [zz_us, qc_cg (a := a') (a' := a) (fun k h1 h2 h3 h4 => (e k (by omega)).symm)]
  · show (if q = o then _ else _ : Nat × Nat) = _
    rw [if_neg (Ne.symm hoq)]; exact g2
  · by_cases hi : i = 1
    · subst hi
      rw [if_pos rfl] at hn
      subst hn
      rw [adU_s]
      exact ⟨f, new, fun k hk => (hf k hk).trans (if_pos rfl)⟩
    · rw [adU_n (Ne.symm hi)]
      exact (g3.fr (keep2 1 (Or.inl ⟨by decide, by decide⟩))).cg (fun k hk => e1 hi k hk)
  · intro k hk
    by_cases hi : i = 2 + k
    · subst hi
      rw [if_neg (by omega)] at hn
      subst hn
      rw [adU_s]
      exact ⟨f, new, fun j hj => (hf j hj).trans (by rw [if_neg (by omega), show 2 + k - 2 = k by omega])⟩
    · rw [adU_n (Ne.symm hi)]
      exact ((g4 k hk).fr (keep2 (2 + k) (Or.inl ⟨by omega, by omega⟩))).cg (fun l hl => e2 l k hk hi)
  · rw [adU_n (by omega)]
    exact (g5.fr (keep2 6 (Or.inl ⟨by decide, by decide⟩)) (tab 7 (by decide))).cg (fun b hb => adU_n (by omega))
  · rw [adU_n (by omega)]
    exact (g6.fr (keep2 8 (Or.inr (Or.inl rfl))) (tab 9 (by decide))).cg (fun b hb => adU_n (by omega))
  · intro c hc
    obtain ⟨k1, k2, k3⟩ := g7 c hc
    obtain ⟨m1, m2⟩ := keepz _ _ k2 k3 ⟨_, rfl⟩
    rw [adU_n (by omega), bl_cg (a := a) (b := c) (fun k _ hk => e _ (by omega)), bs_cg (a := a) (b := c) (fun k hk => e _ (by omega))]
    exact ⟨keep2 _ (Or.inr (Or.inr (Or.inl ⟨by omega, by omega⟩))) _ k1, m1, m2⟩
  · intro c hc
    obtain ⟨k1, k2, k3⟩ := g8 c hc
    obtain ⟨m1, m2⟩ := keepz _ _ k2 k3 ⟨_, rfl⟩
    rw [adU_n (by omega), or_cg (a := a) (o := c) (fun k _ hk => e _ (by omega)), os_cg (a := a) (o := c) (fun k hk => e _ (by omega))]
    exact ⟨keep2 _ (Or.inr (Or.inr (Or.inr ⟨by omega, by omega⟩))) _ k1, m1, m2⟩
  · intro j hj
    by_cases hji : j = i
    · rw [hji, adU_s]
      exact if_pos rfl
    · rw [adU_n hji]
      obtain ⟨e', he'⟩ := qu_I.ex ⟨g1, g2, g3, g4, g5, g6, g7, g8, g9, g10⟩ hj
      exact ((keep _ _ he' (nq (g9 j hj) (by unfold qu_ro at hj; omega))).2).trans (g9 j hj)
end QI
