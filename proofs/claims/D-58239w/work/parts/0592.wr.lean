/-! the quarry's picture, changed field by field -/
/-- what a change in place leaves as it was: other owners' cells, and the quarry's arrays and lists -/
def qu_G (q : Nat) (h : zz_H) (ow : Nat → Nat × Nat) (h' : zz_H) : Prop := ∀ (y : Nat) (e : va_E), h y = some e → ((ow y).1 ≠ q ∨ (1 ≤ (ow y).2 ∧ (ow y).2 ≤ 9)) → h' y = some e
section QI
variable {D : va_G} {h h' : zz_H} {ow ow' : Nat → Nat × Nat} {q : Nat} {ad sz : Nat → Nat} {a a' : Nat → Int32} {nb no : Nat}
theorem qu_G.rf : qu_G q h ow h := fun _ _ he _ => he
theorem qu_G.tr {h2 : zz_H} (f : qu_G q h ow h') (g : qu_G q h' ow h2) : qu_G q h ow h2 := fun y e he hy => g y e (f y e he hy) hy
theorem qu_G.F (f : qu_G q h ow h') : qu_F q h ow h' ow := fun y e he hy => ⟨f y e he (Or.inl hy), rfl⟩
theorem qu_G.up {x i : Nat} {e : va_E} (hx : ow x = (q, i)) (hi : i = 0 ∨ 9 < i) : qu_G q h ow (zz_up h x e) := fun y e' he hy => (zz_un (fun g => by
  subst g
  rw [hx] at hy
  rcases hy with hy | ⟨h1, h2⟩
  · exact hy rfl
  · have h1 : 1 ≤ i := h1
    have h2 : i ≤ 9 := h2
    omega)).trans he
theorem qu_I.owb (H : qu_I D h ow q ad sz a nb no) {b : Nat} (hb : b < nb) : ow (ad (10 + b)) = (q, 10 + b) := H.gw (Or.inr (Or.inr (Or.inl ⟨by omega, by omega⟩)))
theorem qu_I.owo (H : qu_I D h ow q ad sz a nb no) {o : Nat} (ho : o < no) : ow (ad (40 + o)) = (q, 40 + o) := H.gw (Or.inr (Or.inr (Or.inr ⟨by omega, by omega⟩)))
theorem qu_I.owa (H : qu_I D h ow q ad sz a nb no) {i : Nat} (h1 : 1 ≤ i) (h6 : i ≤ 6) : ow (ad i) = (q, i) := H.gw (Or.inl ⟨h1, h6⟩)
theorem qu_I.ow8 (H : qu_I D h ow q ad sz a nb no) : ow (ad 8) = (q, 8) := H.gw (Or.inr (Or.inl rfl))
theorem bl_u4 (a : Nat → Int32) (b s : Nat) (v : Int32) : bl_F (upd a (12 + 10 * b + 4) v) b s = bl_G (nI b) s (a (12 + 10 * b + 3)) (a (12 + 10 * b + 9)) v (a (12 + 10 * b + 5)) (a (12 + 10 * b + 7)) (a (12 + 10 * b + 8)) (a (12 + 10 * b + 6)) := by simp [upd]
theorem qu_I.wb4 (H : qu_I D h ow q ad sz a nb no) {b : Nat} (hb : b < nb) (hnb : nb ≤ 24) {v : Int32} : qu_I D (zz_up h (ad (10 + b)) (bl_G (nI b) (sz b) (a (12 + 10 * b + 3)) (a (12 + 10 * b + 9)) v (a (12 + 10 * b + 5)) (a (12 + 10 * b + 7)) (a (12 + 10 * b + 8)) (a (12 + 10 * b + 6)))) ow q ad sz (upd a (12 + 10 * b + 4) v) nb no := by
  rw [← bl_u4]
  exact H.ub hb hnb (fun j hj => up_n (by omega))
theorem bl_u5 (a : Nat → Int32) (b s : Nat) (v : Int32) : bl_F (upd a (12 + 10 * b + 5) v) b s = bl_G (nI b) s (a (12 + 10 * b + 3)) (a (12 + 10 * b + 9)) (a (12 + 10 * b + 4)) v (a (12 + 10 * b + 7)) (a (12 + 10 * b + 8)) (a (12 + 10 * b + 6)) := by simp [upd]
theorem qu_I.wb5 (H : qu_I D h ow q ad sz a nb no) {b : Nat} (hb : b < nb) (hnb : nb ≤ 24) {v : Int32} : qu_I D (zz_up h (ad (10 + b)) (bl_G (nI b) (sz b) (a (12 + 10 * b + 3)) (a (12 + 10 * b + 9)) (a (12 + 10 * b + 4)) v (a (12 + 10 * b + 7)) (a (12 + 10 * b + 8)) (a (12 + 10 * b + 6)))) ow q ad sz (upd a (12 + 10 * b + 5) v) nb no := by
  rw [← bl_u5]
  exact H.ub hb hnb (fun j hj => up_n (by omega))
theorem bl_u6 (a : Nat → Int32) (b s : Nat) (v : Int32) : bl_F (upd a (12 + 10 * b + 6) v) b s = bl_G (nI b) s (a (12 + 10 * b + 3)) (a (12 + 10 * b + 9)) (a (12 + 10 * b + 4)) (a (12 + 10 * b + 5)) (a (12 + 10 * b + 7)) (a (12 + 10 * b + 8)) v := by simp [upd]
theorem qu_I.wb6 (H : qu_I D h ow q ad sz a nb no) {b : Nat} (hb : b < nb) (hnb : nb ≤ 24) {v : Int32} : qu_I D (zz_up h (ad (10 + b)) (bl_G (nI b) (sz b) (a (12 + 10 * b + 3)) (a (12 + 10 * b + 9)) (a (12 + 10 * b + 4)) (a (12 + 10 * b + 5)) (a (12 + 10 * b + 7)) (a (12 + 10 * b + 8)) v)) ow q ad sz (upd a (12 + 10 * b + 6) v) nb no := by
  rw [← bl_u6]
  exact H.ub hb hnb (fun j hj => up_n (by omega))
theorem bl_u7 (a : Nat → Int32) (b s : Nat) (v : Int32) : bl_F (upd a (12 + 10 * b + 7) v) b s = bl_G (nI b) s (a (12 + 10 * b + 3)) (a (12 + 10 * b + 9)) (a (12 + 10 * b + 4)) (a (12 + 10 * b + 5)) v (a (12 + 10 * b + 8)) (a (12 + 10 * b + 6)) := by simp [upd]
theorem qu_I.wb7 (H : qu_I D h ow q ad sz a nb no) {b : Nat} (hb : b < nb) (hnb : nb ≤ 24) {v : Int32} : qu_I D (zz_up h (ad (10 + b)) (bl_G (nI b) (sz b) (a (12 + 10 * b + 3)) (a (12 + 10 * b + 9)) (a (12 + 10 * b + 4)) (a (12 + 10 * b + 5)) v (a (12 + 10 * b + 8)) (a (12 + 10 * b + 6)))) ow q ad sz (upd a (12 + 10 * b + 7) v) nb no := by
  rw [← bl_u7]
  exact H.ub hb hnb (fun j hj => up_n (by omega))
theorem bl_u8 (a : Nat → Int32) (b s : Nat) (v : Int32) : bl_F (upd a (12 + 10 * b + 8) v) b s = bl_G (nI b) s (a (12 + 10 * b + 3)) (a (12 + 10 * b + 9)) (a (12 + 10 * b + 4)) (a (12 + 10 * b + 5)) (a (12 + 10 * b + 7)) v (a (12 + 10 * b + 6)) := by simp [upd]
theorem qu_I.wb8 (H : qu_I D h ow q ad sz a nb no) {b : Nat} (hb : b < nb) (hnb : nb ≤ 24) {v : Int32} : qu_I D (zz_up h (ad (10 + b)) (bl_G (nI b) (sz b) (a (12 + 10 * b + 3)) (a (12 + 10 * b + 9)) (a (12 + 10 * b + 4)) (a (12 + 10 * b + 5)) (a (12 + 10 * b + 7)) v (a (12 + 10 * b + 6)))) ow q ad sz (upd a (12 + 10 * b + 8) v) nb no := by
  rw [← bl_u8]
  exact H.ub hb hnb (fun j hj => up_n (by omega))
theorem qc_u7 (ad : Nat → Nat) (a : Nat → Int32) (v : Int32) : qu_C ad (upd a 7 v) = qu_F0 ad v (a 4) (a 8) (a 9) (a 10) (a 11) := by simp [upd]
theorem qu_I.wq7 (H : qu_I D h ow q ad sz a nb no) (hnb : nb ≤ 24) (hno : no ≤ 10) {v : Int32} : qu_I D (zz_up h q (qu_F0 ad v (a 4) (a 8) (a 9) (a 10) (a 11))) ow q ad sz (upd a 7 v) nb no := by
  rw [← qc_u7]
  exact H.uq hnb hno (fun j hj => up_n (by omega))
theorem qc_u4 (ad : Nat → Nat) (a : Nat → Int32) (v : Int32) : qu_C ad (upd a 4 v) = qu_F0 ad (a 7) v (a 8) (a 9) (a 10) (a 11) := by simp [upd]
theorem qu_I.wq4 (H : qu_I D h ow q ad sz a nb no) (hnb : nb ≤ 24) (hno : no ≤ 10) {v : Int32} : qu_I D (zz_up h q (qu_F0 ad (a 7) v (a 8) (a 9) (a 10) (a 11))) ow q ad sz (upd a 4 v) nb no := by
  rw [← qc_u4]
  exact H.uq hnb hno (fun j hj => up_n (by omega))
theorem qc_u8 (ad : Nat → Nat) (a : Nat → Int32) (v : Int32) : qu_C ad (upd a 8 v) = qu_F0 ad (a 7) (a 4) v (a 9) (a 10) (a 11) := by simp [upd]
theorem qu_I.wq8 (H : qu_I D h ow q ad sz a nb no) (hnb : nb ≤ 24) (hno : no ≤ 10) {v : Int32} : qu_I D (zz_up h q (qu_F0 ad (a 7) (a 4) v (a 9) (a 10) (a 11))) ow q ad sz (upd a 8 v) nb no := by
  rw [← qc_u8]
  exact H.uq hnb hno (fun j hj => up_n (by omega))
theorem qc_u9 (ad : Nat → Nat) (a : Nat → Int32) (v : Int32) : qu_C ad (upd a 9 v) = qu_F0 ad (a 7) (a 4) (a 8) v (a 10) (a 11) := by simp [upd]
theorem qu_I.wq9 (H : qu_I D h ow q ad sz a nb no) (hnb : nb ≤ 24) (hno : no ≤ 10) {v : Int32} : qu_I D (zz_up h q (qu_F0 ad (a 7) (a 4) (a 8) v (a 10) (a 11))) ow q ad sz (upd a 9 v) nb no := by
  rw [← qc_u9]
  exact H.uq hnb hno (fun j hj => up_n (by omega))
theorem qc_u10 (ad : Nat → Nat) (a : Nat → Int32) (v : Int32) : qu_C ad (upd a 10 v) = qu_F0 ad (a 7) (a 4) (a 8) (a 9) v (a 11) := by simp [upd]
theorem qu_I.wq10 (H : qu_I D h ow q ad sz a nb no) (hnb : nb ≤ 24) (hno : no ≤ 10) {v : Int32} : qu_I D (zz_up h q (qu_F0 ad (a 7) (a 4) (a 8) (a 9) v (a 11))) ow q ad sz (upd a 10 v) nb no := by
  rw [← qc_u10]
  exact H.uq hnb hno (fun j hj => up_n (by omega))
theorem qc_u11 (ad : Nat → Nat) (a : Nat → Int32) (v : Int32) : qu_C ad (upd a 11 v) = qu_F0 ad (a 7) (a 4) (a 8) (a 9) (a 10) v := by simp [upd]
theorem qu_I.wq11 (H : qu_I D h ow q ad sz a nb no) (hnb : nb ≤ 24) (hno : no ≤ 10) {v : Int32} : qu_I D (zz_up h q (qu_F0 ad (a 7) (a 4) (a 8) (a 9) (a 10) v)) ow q ad sz (upd a 11 v) nb no := by
  rw [← qc_u11]
  exact H.uq hnb hno (fun j hj => up_n (by omega))
theorem or_u3 (a : Nat → Int32) (o s : Nat) (v : Int32) : or_F (upd a (252 + 6 * o + 3) v) o s = or_G s v (a (252 + 6 * o + 4)) (a (252 + 6 * o + 5)) := by simp [upd]
theorem qu_I.wo3 (H : qu_I D h ow q ad sz a nb no) {o : Nat} (ho : o < no) (hnb : nb ≤ 24) (hno : no ≤ 10) {v : Int32} : qu_I D (zz_up h (ad (40 + o)) (or_G (sz (40 + o)) v (a (252 + 6 * o + 4)) (a (252 + 6 * o + 5)))) ow q ad sz (upd a (252 + 6 * o + 3) v) nb no := by
  rw [← or_u3]
  exact H.uo ho hnb hno (fun j hj => up_n (by omega))
theorem or_u4 (a : Nat → Int32) (o s : Nat) (v : Int32) : or_F (upd a (252 + 6 * o + 4) v) o s = or_G s (a (252 + 6 * o + 3)) v (a (252 + 6 * o + 5)) := by simp [upd]
theorem qu_I.wo4 (H : qu_I D h ow q ad sz a nb no) {o : Nat} (ho : o < no) (hnb : nb ≤ 24) (hno : no ≤ 10) {v : Int32} : qu_I D (zz_up h (ad (40 + o)) (or_G (sz (40 + o)) (a (252 + 6 * o + 3)) v (a (252 + 6 * o + 5)))) ow q ad sz (upd a (252 + 6 * o + 4) v) nb no := by
  rw [← or_u4]
  exact H.uo ho hnb hno (fun j hj => up_n (by omega))
theorem or_u5 (a : Nat → Int32) (o s : Nat) (v : Int32) : or_F (upd a (252 + 6 * o + 5) v) o s = or_G s (a (252 + 6 * o + 3)) (a (252 + 6 * o + 4)) v := by simp [upd]
theorem qu_I.wo5 (H : qu_I D h ow q ad sz a nb no) {o : Nat} (ho : o < no) (hnb : nb ≤ 24) (hno : no ≤ 10) {v : Int32} : qu_I D (zz_up h (ad (40 + o)) (or_G (sz (40 + o)) (a (252 + 6 * o + 3)) (a (252 + 6 * o + 4)) v)) ow q ad sz (upd a (252 + 6 * o + 5) v) nb no := by
  rw [← or_u5]
  exact H.uo ho hnb hno (fun j hj => up_n (by omega))
theorem qu_I.ex (H : qu_I D h ow q ad sz a nb no) {i : Nat} (hi : qu_ro nb no i) : ∃ e, h (ad i) = some e := by
  obtain ⟨g1, g2, g3, g4, g5, g6, g7, g8, g9, g10⟩ := H
  rcases hi with ⟨i1, i2⟩ | hi | ⟨i1, i2⟩ | ⟨i1, i2⟩
  · have : i = 1 ∨ (∃ k, k < 4 ∧ i = 2 + k) ∨ i = 6 := by
      by_cases h1 : i = 1
      · exact Or.inl h1
      · by_cases h6 : i = 6
        · exact Or.inr (Or.inr h6)
        · exact Or.inr (Or.inl ⟨i - 2, by omega, by omega⟩)
    rcases this with rfl | ⟨k, hk, rfl⟩ | rfl
    · obtain ⟨f, k1, -⟩ := g3
      exact ⟨_, k1⟩
    · obtain ⟨f, k1, -⟩ := g4 k hk
      exact ⟨_, k1⟩
    · obtain ⟨mc, ar, cap, f, k1, -⟩ := g5
      exact ⟨_, k1⟩
  · subst hi
    obtain ⟨mc, ar, cap, f, k1, -⟩ := g6
    exact ⟨_, k1⟩
  · obtain ⟨b, rfl⟩ : ∃ b, i = 10 + b := ⟨i - 10, by omega⟩
    exact ⟨_, (g7 b (by omega)).1⟩
  · obtain ⟨o, rfl⟩ : ∃ o, i = 40 + o := ⟨i - 40, by omega⟩
    exact ⟨_, (g8 o (by omega)).1⟩
/-- settings, and what lorries have -/
theorem qu_I.ws (H : qu_I D h ow q ad sz a nb no) (hnb : nb ≤ 24) (hno : no ≤ 10) {f : Nat → Int32} (hf : ∀ k : Nat, k < 4 → f k = a k) {j : Nat} (hj : j < 4) {v : Int32} : qu_I D (zz_up h (ad 1) (.inl (D.1 100, 4, .inl (upd f j v)))) ow q ad sz (upd a j v) nb no := by
  refine H.ua hnb hno (by decide) (by decide) rfl (fun k hk => ?_) (fun i hi => up_n (by omega)) (fun g => absurd rfl g) (fun l k hk _ => up_n (by omega))
  rw [if_pos rfl]
  by_cases e : k = j
  · rw [e, up_s, up_s]
  · rw [up_n e, up_n e, hf k hk]
theorem qu_I.wl (H : qu_I D h ow q ad sz a nb no) (hnb : nb ≤ 24) (hno : no ≤ 10) {f : Nat → Int32} (t : Nat) (ht : t < 4) (hf : ∀ k : Nat, k < 3 → f k = a (312 + 4 * k + t)) {j : Nat} (hj : j < 3) {v : Int32} : qu_I D (zz_up h (ad (2 + t)) (.inl (D.1 100, 3, .inl (upd f j v)))) ow q ad sz (upd a (312 + 4 * j + t) v) nb no := by
  refine H.ua hnb hno (by omega) (by omega) (by rw [if_neg (by omega)]) (fun k hk => ?_) (fun i hi => up_n (by omega)) (fun g i hi => up_n (by omega)) (fun l k hk g => up_n (by omega))
  rw [if_neg (by omega), show 2 + t - 2 = t by omega]
  by_cases e : k = j
  · rw [e, up_s, up_s]
  · rw [up_n e, up_n (by omega), hf k hk]
/-- an object more in a list -/
theorem qu_Lx.add {b0 : Nat} {tag : Nat × Nat} {L n ar cap o ar' cap' : Nat} {el el' : Nat → Nat} {mc : Int32} {f f' : Nat → Option Nat} (H : qu_Lx D h ow tag L n el mc ar cap f) (hR : li_R b0 h ar n f o ar' cap' f') (hD : h (D.2 1000 3) = none) (hn : el' n = o) (he : ∀ i : Nat, i < n → el' i = el i) : qu_L D (zz_up (zz_up h L (li_F (mc + 1) ar' (n + 1))) ar' (li_T D cap' f')) (fun y => if y = ar' then tag else ow y) tag L (n + 1) el' ∧ ar' ≠ L ∧ (h ar' = none ∨ ow ar' = tag) := by
  obtain ⟨h1, h2, h3, h4, h5, h6⟩ := H
  obtain ⟨g1, g2, g3, g4, g5, g6⟩ := hR
  have hne : ar' ≠ L := by
    rcases g1 with e | ⟨e, -⟩
    · rw [e]
      rcases h2 with ⟨k1, -, -⟩ | ⟨k1, -⟩
      · exact zz_ix k1 h1
      · intro g
        rw [k1] at g
        rw [g, h1] at hD
        cases hD
    · intro g
      rw [g, h1] at e
      cases e
  refine ⟨⟨mc + 1, ar', cap', f', ?_, Or.inl ⟨zz_us, by omega, if_pos rfl⟩, by omega, g3, fun i hi => g6 i (by omega), fun i hi => ?_⟩, hne, ?_⟩
  · rw [zz_un (Ne.symm hne)]
    exact zz_us
  · by_cases e : i = n
    · rw [e, hn]; exact g4
    · rw [he i (by omega), g5 i (by omega)]; exact h6 i (by omega)
  · rcases g1 with e | ⟨e, -⟩
    · rw [e]
      rcases h2 with ⟨-, -, k1⟩ | ⟨k1, -⟩
      · exact Or.inr k1
      · rw [k1]; exact Or.inl hD
    · exact Or.inl e
def adU (ad : Nat → Nat) (k o : Nat) : Nat → Nat := fun i => if i = k then o else ad i
theorem adU_s {ad : Nat → Nat} {k o : Nat} : adU ad k o k = o := if_pos rfl
theorem adU_n {ad : Nat → Nat} {k o i : Nat} (h : i ≠ k) : adU ad k o i = ad i := if_neg h
theorem adU_C {ad : Nat → Nat} {k o : Nat} {a : Nat → Int32} (h : 9 < k) : qu_C (adU ad k o) a = qu_C ad a := by
  unfold qu_C qu_F0
  rw [adU_n (by omega), adU_n (by omega), adU_n (by omega), adU_n (by omega), adU_n (by omega), adU_n (by omega), adU_n (by omega)]
/-- a block more: o is the new object, sn its sizes -/
theorem qu_I.addb {b0 : Nat} (H : qu_I D h ow q ad sz a nb no) (hnb : nb < 24) (hno : no ≤ 10) (hD : h (D.2 1000 3) = none) {o sn ar cap ar' cap' : Nat} {mc : Int32} {f f' : Nat → Option Nat} {e0 : va_E} (ho : h o = none) (hoD : o ≠ D.2 1000 3) (hLx : qu_Lx D h ow (q, 7) (ad 6) nb (fun b => ad (10 + b)) mc ar cap f) (hR : li_R b0 (zz_up h o e0) ar nb f o ar' cap' f')
    (h5 : ∀ j : Nat, j < 12 → j ≠ 5 → j ≠ 6 → a' j = a j) (hb : ∀ j : Nat, 12 ≤ j → j < 12 + 10 * nb → a' j = a j) (ho2 : ∀ j : Nat, 252 ≤ j → a' j = a j) (he0 : e0 = bl_F a' nb sn) (hsn : h sn = some (bs_F a' nb)) (hos : (ow sn).1 = sn) :
    ∃ (ow' : Nat → Nat × Nat), qu_I D (zz_up (zz_up (zz_up h o e0) (ad 6) (li_F (mc + 1) ar' (nb + 1))) ar' (li_T D cap' f')) ow' q (adU ad (10 + nb) o) (adU sz nb sn) a' (nb + 1) no ∧ qu_F q h ow (zz_up (zz_up (zz_up h o e0) (ad 6) (li_F (mc + 1) ar' (nb + 1))) ar' (li_T D cap' f')) ow' := by
  subst he0
  have hex := fun (i : Nat) => H.ex (i := i)
  obtain ⟨g1, g2, g3, g4, g5, g6, g7, g8, g9, g10⟩ := H
  have hx6 : ow (ad 6) = (q, 6) := g9 _ (Or.inl ⟨by decide, by decide⟩)
  have up1 : ∀ y e, h y = some e → zz_up h o (bl_F a' nb sn) y = some e := fun y e he => zz_uf he ho
  have ow1 : ∀ y e, h y = some e → (if y = o then (q, 10 + nb) else ow y : Nat × Nat) = ow y := fun y e he => if_neg (zz_nf he ho)
  have hLx1 : qu_Lx D (zz_up h o (bl_F a' nb sn)) (fun y => if y = o then (q, 10 + nb) else ow y) (q, 7) (ad 6) nb (fun b => ad (10 + b)) mc ar cap f := hLx.fr (fun e he => up1 _ _ he) (fun y e he hy => ⟨up1 _ _ he, (ow1 y e he).trans hy⟩)
  obtain ⟨hL2, n1, n2⟩ := hLx1.add (el' := (fun b => adU ad (10 + nb) o (10 + b))) hR (by rw [zz_un (Ne.symm hoD)]; exact hD) adU_s (fun i hi => adU_n (by omega))
  have n3 : ar' ≠ o := by
    intro g
    rcases n2 with e | e
    · rw [g, zz_us] at e; cases e
    · rw [g] at e
      have e : (if o = o then (q, 10 + nb) else ow o : Nat × Nat) = (q, 7) := e
      rw [if_pos rfl] at e
      exact absurd (congrArg Prod.snd e) (by show 10 + nb ≠ 7; omega)
  have keep : ∀ y e, h y = some e → ow y ≠ (q, 7) → y ≠ ad 6 → (zz_up (zz_up (zz_up h o (bl_F a' nb sn)) (ad 6) (li_F (mc + 1) ar' (nb + 1))) ar' (li_T D cap' f')) y = some e ∧ (if y = ar' then (q, 7) else if y = o then (q, 10 + nb) else ow y : Nat × Nat) = ow y := by
    intro y e he h1 h2
    have h3 : y ≠ ar' := by
      intro g
      subst g
      rcases n2 with e2 | e2
      · rw [up1 _ _ he] at e2; cases e2
      · exact h1 ((ow1 y e he).symm.trans e2)
    exact ⟨by rw [zz_un h3, zz_un h2]; exact up1 _ _ he, by rw [if_neg h3]; exact ow1 y e he⟩
  have n4 : o ≠ ad 6 := fun g => by rw [g, hLx.1] at ho; cases ho
  have keep2 : ∀ i : Nat, qu_ro nb no i → i ≠ 6 → ∀ e, h (ad i) = some e → (zz_up (zz_up (zz_up h o (bl_F a' nb sn)) (ad 6) (li_F (mc + 1) ar' (nb + 1))) ar' (li_T D cap' f')) (ad i) = some e := fun i hi h6 e he => (keep _ e he (by rw [g9 i hi]; exact qu_t (by unfold qu_ro at hi; omega)) (fun g => h6 (congrArg Prod.snd ((g9 i hi).symm.trans ((congrArg ow g).trans hx6))))).1
  have keepz : ∀ y e, h y = some e → (ow y).1 = y → (∃ fs, e = .inr (4, fs)) → (zz_up (zz_up (zz_up h o (bl_F a' nb sn)) (ad 6) (li_F (mc + 1) ar' (nb + 1))) ar' (li_T D cap' f')) y = some e ∧ ((if y = ar' then (q, 7) else if y = o then (q, 10 + nb) else ow y : Nat × Nat)).1 = y := by
    rintro y e he h1 ⟨fs, rfl⟩
    have hyq : y ≠ q := zz_cc he g1 (by decide)
    obtain ⟨k1, k2⟩ := keep y _ he (fun g => hyq (by rw [← h1, g])) (fun g => by rw [g, hLx.1] at he; cases he)
    exact ⟨k1, by rw [k2]; exact h1⟩
  refine ⟨fun y => if y = ar' then (q, 7) else if y = o then (q, 10 + nb) else ow y, ⟨?_, ?_, ?_, ?_, ?_, ?_, ?_, ?_, ?_, by omega⟩, ?_⟩
  · rw [adU_C (by omega), qc_cg (a := a) (fun k k1 k2 k3 k4 => h5 _ (by omega) (by omega) (by omega))]
    exact (keep _ _ g1 (by rw [g2]; exact qu_t (by decide)) (zz_cc g1 hLx.1 (by decide))).1
  · exact ((keep _ _ g1 (by rw [g2]; exact qu_t (by decide)) (zz_cc g1 hLx.1 (by decide))).2).trans g2
  · rw [adU_n (by omega)]
    exact (g3.fr (keep2 1 (Or.inl ⟨by decide, by decide⟩) (by decide))).cg (fun k hk => h5 _ (by omega) (by omega) (by omega))
  · intro k hk
    rw [adU_n (by omega)]
    exact ((g4 k hk).fr (keep2 (2 + k) (Or.inl ⟨by omega, by omega⟩) (by omega))).cg (fun l hl => ho2 _ (by omega))
  · rw [adU_n (by omega)]
    exact hL2
  · rw [adU_n (by omega)]
    exact (g6.fr (keep2 8 (Or.inr (Or.inl rfl)) (by decide)) (fun y e he hy => by
      obtain ⟨k1, k2⟩ := keep y e he (by rw [hy]; exact qu_t (by decide)) (fun g => by rw [g, hx6] at hy; exact absurd (congrArg Prod.snd hy) (fun g2 => absurd (show (6 : Nat) = 9 from g2) (by decide)))
      exact ⟨k1, k2.trans hy⟩)).cg (fun i hi => adU_n (by omega))
  · intro b hb'
    by_cases hbn : b = nb
    · subst hbn
      rw [adU_s, adU_s, zz_un (Ne.symm n3), zz_un n4, zz_us]
      obtain ⟨k1, k2⟩ := keepz sn _ hsn hos ⟨_, rfl⟩
      exact ⟨rfl, k1, k2⟩
    · rw [adU_n (by omega), adU_n hbn, bl_cg (a := a) (b := b) (fun k _ hk => hb _ (by omega) (by omega)), bs_cg (a := a) (b := b) (fun k hk => hb _ (by omega) (by omega))]
      obtain ⟨m1, m2, m3⟩ := g7 b (by omega)
      obtain ⟨k1, k2⟩ := keepz _ _ m2 m3 ⟨_, rfl⟩
      exact ⟨keep2 _ (Or.inr (Or.inr (Or.inl ⟨by omega, by omega⟩))) (by omega) _ m1, k1, k2⟩
  · intro c hc
    rw [adU_n (by omega), adU_n (by omega), or_cg (a := a) (o := c) (fun k _ hk => ho2 _ (by omega)), os_cg (a := a) (o := c) (fun k hk => ho2 _ (by omega))]
    obtain ⟨m1, m2, m3⟩ := g8 c hc
    obtain ⟨k1, k2⟩ := keepz _ _ m2 m3 ⟨_, rfl⟩
    exact ⟨keep2 _ (Or.inr (Or.inr (Or.inr ⟨by omega, by omega⟩))) (by omega) _ m1, k1, k2⟩
  · intro i hi
    by_cases hin : i = 10 + nb
    · rw [hin, adU_s]
      show (if o = ar' then _ else if o = o then _ else _ : Nat × Nat) = _
      rw [if_neg (Ne.symm n3), if_pos rfl]
    · rw [adU_n hin]
      have hi2 : qu_ro nb no i := by unfold qu_ro at hi ⊢; omega
      show (if ad i = ar' then _ else if ad i = o then _ else _ : Nat × Nat) = _
      obtain ⟨e, he⟩ := hex i hi2
      by_cases h6 : i = 6
      · subst h6
        rw [if_neg (Ne.symm n1), if_neg (Ne.symm n4)]
        exact hx6
      · exact ((keep _ e he (by rw [g9 i hi2]; exact qu_t (by unfold qu_ro at hi2; omega)) (fun g => h6 (congrArg Prod.snd ((g9 i hi2).symm.trans ((congrArg ow g).trans hx6))))).2).trans (g9 i hi2)
  · intro y e he hy
    by_cases h6 : y = ad 6
    · rw [h6, hx6] at hy
      exact absurd rfl hy
    · exact keep y e he (fun g => hy (by rw [g])) h6
/-- an order more: o is the new object, sn its sizes -/
theorem qu_I.addo {b0 : Nat} (H : qu_I D h ow q ad sz a nb no) (hnb : nb ≤ 24) (hno : no < 10) (hD : h (D.2 1000 3) = none) {o sn ar cap ar' cap' : Nat} {mc : Int32} {f f' : Nat → Option Nat} {e0 : va_E} (ho : h o = none) (hoD : o ≠ D.2 1000 3) (hLx : qu_Lx D h ow (q, 9) (ad 8) no (fun o => ad (40 + o)) mc ar cap f) (hR : li_R b0 (zz_up h o e0) ar no f o ar' cap' f')
    (h5 : ∀ j : Nat, j < 252 → j ≠ 5 → j ≠ 6 → a' j = a j) (hb : ∀ j : Nat, 252 ≤ j → j < 252 + 6 * no → a' j = a j) (ho2 : ∀ j : Nat, 312 ≤ j → a' j = a j) (he0 : e0 = or_F a' no sn) (hsn : h sn = some (os_F a' no)) (hos : (ow sn).1 = sn) :
    ∃ (ow' : Nat → Nat × Nat), qu_I D (zz_up (zz_up (zz_up h o e0) (ad 8) (li_F (mc + 1) ar' (no + 1))) ar' (li_T D cap' f')) ow' q (adU ad (40 + no) o) (adU sz (40 + no) sn) a' nb (no + 1) ∧ qu_F q h ow (zz_up (zz_up (zz_up h o e0) (ad 8) (li_F (mc + 1) ar' (no + 1))) ar' (li_T D cap' f')) ow' := by
  subst he0
  have hex := fun (i : Nat) => H.ex (i := i)
  obtain ⟨g1, g2, g3, g4, g5, g6, g7, g8, g9, g10⟩ := H
  have hx6 : ow (ad 8) = (q, 8) := g9 _ (Or.inr (Or.inl rfl))
  have up1 : ∀ y e, h y = some e → zz_up h o (or_F a' no sn) y = some e := fun y e he => zz_uf he ho
  have ow1 : ∀ y e, h y = some e → (if y = o then (q, 40 + no) else ow y : Nat × Nat) = ow y := fun y e he => if_neg (zz_nf he ho)
  have hLx1 : qu_Lx D (zz_up h o (or_F a' no sn)) (fun y => if y = o then (q, 40 + no) else ow y) (q, 9) (ad 8) no (fun o => ad (40 + o)) mc ar cap f := hLx.fr (fun e he => up1 _ _ he) (fun y e he hy => ⟨up1 _ _ he, (ow1 y e he).trans hy⟩)
  obtain ⟨hL2, n1, n2⟩ := hLx1.add (el' := (fun c => adU ad (40 + no) o (40 + c))) hR (by rw [zz_un (Ne.symm hoD)]; exact hD) adU_s (fun i hi => adU_n (by omega))
  have n3 : ar' ≠ o := by
    intro g
    rcases n2 with e | e
    · rw [g, zz_us] at e; cases e
    · rw [g] at e
      have e : (if o = o then (q, 40 + no) else ow o : Nat × Nat) = (q, 9) := e
      rw [if_pos rfl] at e
      exact absurd (congrArg Prod.snd e) (by show 40 + no ≠ 9; omega)
  have keep : ∀ y e, h y = some e → ow y ≠ (q, 9) → y ≠ ad 8 → (zz_up (zz_up (zz_up h o (or_F a' no sn)) (ad 8) (li_F (mc + 1) ar' (no + 1))) ar' (li_T D cap' f')) y = some e ∧ (if y = ar' then (q, 9) else if y = o then (q, 40 + no) else ow y : Nat × Nat) = ow y := by
    intro y e he h1 h2
    have h3 : y ≠ ar' := by
      intro g
      subst g
      rcases n2 with e2 | e2
      · rw [up1 _ _ he] at e2; cases e2
      · exact h1 ((ow1 y e he).symm.trans e2)
    exact ⟨by rw [zz_un h3, zz_un h2]; exact up1 _ _ he, by rw [if_neg h3]; exact ow1 y e he⟩
  have n4 : o ≠ ad 8 := fun g => by rw [g, hLx.1] at ho; cases ho
  have keep2 : ∀ i : Nat, qu_ro nb no i → i ≠ 8 → ∀ e, h (ad i) = some e → (zz_up (zz_up (zz_up h o (or_F a' no sn)) (ad 8) (li_F (mc + 1) ar' (no + 1))) ar' (li_T D cap' f')) (ad i) = some e := fun i hi h6 e he => (keep _ e he (by rw [g9 i hi]; exact qu_t (by unfold qu_ro at hi; omega)) (fun g => h6 (congrArg Prod.snd ((g9 i hi).symm.trans ((congrArg ow g).trans hx6))))).1
  have keepz : ∀ y e, h y = some e → (ow y).1 = y → (∃ fs, e = .inr (4, fs)) → (zz_up (zz_up (zz_up h o (or_F a' no sn)) (ad 8) (li_F (mc + 1) ar' (no + 1))) ar' (li_T D cap' f')) y = some e ∧ ((if y = ar' then (q, 9) else if y = o then (q, 40 + no) else ow y : Nat × Nat)).1 = y := by
    rintro y e he h1 ⟨fs, rfl⟩
    have hyq : y ≠ q := zz_cc he g1 (by decide)
    obtain ⟨k1, k2⟩ := keep y _ he (fun g => hyq (by rw [← h1, g])) (fun g => by rw [g, hLx.1] at he; cases he)
    exact ⟨k1, by rw [k2]; exact h1⟩
  refine ⟨fun y => if y = ar' then (q, 9) else if y = o then (q, 40 + no) else ow y, ⟨?_, ?_, ?_, ?_, ?_, ?_, ?_, ?_, ?_, by omega⟩, ?_⟩
  · rw [adU_C (by omega), qc_cg (a := a) (fun k k1 k2 k3 k4 => h5 _ (by omega) (by omega) (by omega))]
    exact (keep _ _ g1 (by rw [g2]; exact qu_t (by decide)) (zz_cc g1 hLx.1 (by decide))).1
  · exact ((keep _ _ g1 (by rw [g2]; exact qu_t (by decide)) (zz_cc g1 hLx.1 (by decide))).2).trans g2
  · rw [adU_n (by omega)]
    exact (g3.fr (keep2 1 (Or.inl ⟨by decide, by decide⟩) (by decide))).cg (fun k hk => h5 _ (by omega) (by omega) (by omega))
  · intro k hk
    rw [adU_n (by omega)]
    exact ((g4 k hk).fr (keep2 (2 + k) (Or.inl ⟨by omega, by omega⟩) (by omega))).cg (fun l hl => ho2 _ (by omega))
  · rw [adU_n (by omega)]
    exact (g5.fr (keep2 6 (Or.inl ⟨by decide, by decide⟩) (by decide)) (fun y e he hy => by
      obtain ⟨k1, k2⟩ := keep y e he (by rw [hy]; exact qu_t (by decide)) (fun g => by rw [g, hx6] at hy; exact absurd (congrArg Prod.snd hy) (fun g2 => absurd (show (8 : Nat) = 7 from g2) (by decide)))
      exact ⟨k1, k2.trans hy⟩)).cg (fun i hi => adU_n (by omega))
  · rw [adU_n (by omega)]
    exact hL2
  · intro b hb'
    rw [adU_n (by omega), adU_n (by omega), bl_cg (a := a) (b := b) (fun k _ hk => h5 _ (by omega) (by omega) (by omega)), bs_cg (a := a) (b := b) (fun k hk => h5 _ (by omega) (by omega) (by omega))]
    obtain ⟨m1, m2, m3⟩ := g7 b hb'
    obtain ⟨k1, k2⟩ := keepz _ _ m2 m3 ⟨_, rfl⟩
    exact ⟨keep2 _ (Or.inr (Or.inr (Or.inl ⟨by omega, by omega⟩))) (by omega) _ m1, k1, k2⟩
  · intro c hc
    by_cases hbn : c = no
    · subst hbn
      rw [adU_s, adU_s, zz_un (Ne.symm n3), zz_un n4, zz_us]
      obtain ⟨k1, k2⟩ := keepz sn _ hsn hos ⟨_, rfl⟩
      exact ⟨rfl, k1, k2⟩
    · rw [adU_n (by omega), adU_n (by omega), or_cg (a := a) (o := c) (fun k _ hk => hb _ (by omega) (by omega)), os_cg (a := a) (o := c) (fun k hk => hb _ (by omega) (by omega))]
      obtain ⟨m1, m2, m3⟩ := g8 c (by omega)
      obtain ⟨k1, k2⟩ := keepz _ _ m2 m3 ⟨_, rfl⟩
      exact ⟨keep2 _ (Or.inr (Or.inr (Or.inr ⟨by omega, by omega⟩))) (by omega) _ m1, k1, k2⟩
  · intro i hi
    by_cases hin : i = 40 + no
    · rw [hin, adU_s]
      show (if o = ar' then _ else if o = o then _ else _ : Nat × Nat) = _
      rw [if_neg (Ne.symm n3), if_pos rfl]
    · rw [adU_n hin]
      have hi2 : qu_ro nb no i := by unfold qu_ro at hi ⊢; omega
      show (if ad i = ar' then _ else if ad i = o then _ else _ : Nat × Nat) = _
      obtain ⟨e, he⟩ := hex i hi2
      by_cases h6 : i = 8
      · subst h6
        rw [if_neg (Ne.symm n1), if_neg (Ne.symm n4)]
        exact hx6
      · exact ((keep _ e he (by rw [g9 i hi2]; exact qu_t (by unfold qu_ro at hi2; omega)) (fun g => h6 (congrArg Prod.snd ((g9 i hi2).symm.trans ((congrArg ow g).trans hx6))))).2).trans (g9 i hi2)
  · intro y e he hy
    by_cases h6 : y = ad 8
    · rw [h6, hx6] at hy
      exact absurd rfl hy
    · exact keep y e he (fun g => hy (by rw [g])) h6
end QI
