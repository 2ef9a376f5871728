/-! an iterator beside a quarry that changes in place -/
def it_I (D : va_G) (h : zz_H) (ow : Nat → Nat × Nat) (q : Nat) (ad : Nat → Nat) (nb it i : Nat) (lr : Int32) : Prop := ∃ (mc : Int32) (ar cap : Nat) (f : Nat → Option Nat), h it = some (it_F i lr mc (ad 6)) ∧ qu_Lx D h ow (q, 7) (ad 6) nb (fun b => ad (10 + b)) mc ar cap f ∧ ow it = (it, 98) ∧ it ≠ q ∧ ow (ad 6) = (q, 6)
section QI
variable {D : va_G} {h h' h0 : zz_H} {ow ow' ow0 : Nat → Nat × Nat} {q : Nat} {ad sz : Nat → Nat} {a a' : Nat → Int32} {nb no it i : Nat} {lr : Int32}
theorem it_I.G (H : it_I D h ow q ad nb it i lr) (hG : qu_G q h ow h') : it_I D h' ow q ad nb it i lr := by
  obtain ⟨mc, ar, cap, f, h1, h2, h3, h4, h5⟩ := H
  exact ⟨mc, ar, cap, f, hG _ _ h1 (Or.inl (by rw [h3]; exact h4)), h2.fr (fun e he => hG _ _ he (Or.inr (by rw [h5]; exact ⟨by show 1 ≤ 6; decide, by show 6 ≤ 9; decide⟩))) (fun y e he hy => ⟨hG _ _ he (Or.inr (by rw [hy]; exact ⟨by show 1 ≤ 7; decide, by show 7 ≤ 9; decide⟩)), hy⟩), h3, h4, h5⟩
/-- a quarry, an iterator over its blocks, and what was before -/
def lp_I (D : va_G) (h0 : zz_H) (ow0 : Nat → Nat × Nat) (h : zz_H) (ow : Nat → Nat × Nat) (q : Nat) (ad sz : Nat → Nat) (a : Nat → Int32) (nb no it i : Nat) (lr : Int32) : Prop := qu_I D h ow q ad sz a nb no ∧ qu_F q h0 ow0 h ow ∧ h0 it = none ∧ it_I D h ow q ad nb it i lr
theorem qu_I.ux (H : qu_I D h ow q ad sz a nb no) {x ci : Nat} {fs : List Value} {e : va_E} (hx : h x = some (.inr (ci, fs))) (hci : ci ≠ 4) (ho : (ow x).1 ≠ q) : qu_I D (zz_up h x e) ow q ad sz a nb no := H.fr (fun y e' he hy => ⟨(zz_un (fun g => by
  subst g
  rcases hy with hy | ⟨fs', rfl⟩
  · exact ho hy
  · rw [hx] at he
    cases he
    exact hci rfl)).trans he, rfl⟩)
theorem lp_I.new (H : qu_I D h ow q ad sz a nb no) {mc : Int32} {ar cap : Nat} {f : Nat → Option Nat} (hLx : qu_Lx D h ow (q, 7) (ad 6) nb (fun b => ad (10 + b)) mc ar cap f) (hit : h it = none) : lp_I D h ow (zz_up h it (it_F 0 (-1) mc (ad 6))) (fun y => if y = it then (it, 98) else ow y) q ad sz a nb no it 0 (-1) := by
  have hne : it ≠ q := fun g => by rw [g, H.gq] at hit; cases hit
  have h6 : ad 6 ≠ it := zz_nf hLx.1 hit
  exact ⟨H.nwo hit, qu_F.nwo hit, hit, mc, ar, cap, f, zz_us, hLx.fr (fun e he => zz_uf he hit) (fun y e he hy => ⟨zz_uf he hit, (if_neg (zz_nf he hit)).trans hy⟩), if_pos rfl, hne, (if_neg h6).trans (H.owa (by decide) (by decide))⟩
theorem lp_I.nx (H : lp_I D h0 ow0 h ow q ad sz a nb no it i lr) {mc lr' : Int32} {i' : Nat} (hI : h it = some (it_F i lr mc (ad 6))) : lp_I D h0 ow0 (zz_up h it (it_F i' lr' mc (ad 6))) ow q ad sz a nb no it i' lr' := by
  obtain ⟨h1, h2, hn, mc2, ar, cap, f, g1, g2, g3, g4, g5⟩ := H
  rw [hI] at g1
  cases g1
  have h6 : ad 6 ≠ it := fun g => by
    have g2 := g2.1
    rw [g, hI] at g2
    cases g2
  have hni : (ow it).1 ≠ q := by rw [g3]; exact g4
  exact ⟨h1.ux hI (by decide) hni, fun y e he hy => by
    obtain ⟨k1, k2⟩ := h2 y e he hy
    by_cases hyi : y = it
    · rw [hyi, hn] at he; cases he
    · exact ⟨(zz_un hyi).trans k1, k2⟩, hn, mc, ar, cap, f, zz_us, g2.fr (fun e he => (zz_un h6).trans he) (fun y e he hy => ⟨(zz_un (fun g => by rw [g, g3] at hy; exact absurd (congrArg Prod.snd hy) (show (98 : Nat) ≠ 7 by decide))).trans he, hy⟩), g3, g4, g5⟩
/-- a change in place -/
theorem lp_I.up (H : lp_I D h0 ow0 h ow q ad sz a nb no it i lr) (hQ : qu_I D h' ow q ad sz a' nb no) (hG : qu_G q h ow h') : lp_I D h0 ow0 h' ow q ad sz a' nb no it i lr := ⟨hQ, H.2.1.tr hG.F, H.2.2.1, H.2.2.2.G hG⟩
end QI
