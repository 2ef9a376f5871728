/-! the twin's picture -/
/-- the twin's object x and its row of numbers s, which holds a -/
def tw_M (D : va_G) (h : zz_H) (x s : Nat) (a : Nat → Int32) : Prop := ∃ fs : List Value, h x = some (.inr (6, fs)) ∧ fs[0]? = some (.ref s) ∧ h s = some (.inl (D.1 100, 324, .inl a))
/-- the twin whole: its eight rows at ad 0 .. ad 7 -/
def tw_X (D : va_G) (h : zz_H) (x : Nat) (ad : Nat → Nat) (a ah hi : Nat → Int32) (kp : Nat) (sl sv pd : Nat → Int32) (len : Nat) (so : Nat → Int32) (pos wr : Int32) (to : Nat → Int32) : Prop :=
  h x = some (.inr (6, [.ref (ad 0), .ref (ad 1), .ref (ad 2), .int (nI kp), .ref (ad 3), .ref (ad 4), .ref (ad 5), .int (nI len), .ref (ad 6), .int pos, .int wr, .ref (ad 7)])) ∧
  h (ad 0) = some (.inl (D.1 100, 324, .inl a)) ∧ h (ad 1) = some (.inl (D.1 100, 324, .inl ah)) ∧ h (ad 2) = some (.inl (D.1 100, 1944, .inl hi)) ∧ h (ad 3) = some (.inl (D.1 100, 648, .inl sl)) ∧ h (ad 4) = some (.inl (D.1 101, 2, .inl sv)) ∧ h (ad 5) = some (.inl (D.1 100, 80, .inl pd)) ∧ h (ad 6) = some (.inl (D.1 100, 3, .inl so)) ∧ h (ad 7) = some (.inl (D.1 100, 5, .inl to)) ∧ (∀ i j : Nat, i < 8 → j < 8 → i ≠ j → ad i ≠ ad j)
/-- what the twin's calls may change -/
def tw_F (x : Nat) (ad : Nat → Nat) (h h' : zz_H) : Prop := ∀ y : Nat, y ≠ x → (∀ i : Nat, i < 8 → y ≠ ad i) → h' y = h y
theorem tw_F.rf {x : Nat} {ad : Nat → Nat} {h : zz_H} : tw_F x ad h h := fun _ _ _ => rfl
theorem tw_F.tr {x : Nat} {ad : Nat → Nat} {h h1 h2 : zz_H} (f : tw_F x ad h h1) (g : tw_F x ad h1 h2) : tw_F x ad h h2 := fun y h3 h4 => (g y h3 h4).trans (f y h3 h4)
theorem tw_F.up {x : Nat} {ad : Nat → Nat} {h : zz_H} {e : va_E} (i : Nat) (hi : i < 8) : tw_F x ad h (zz_up h (ad i) e) := fun _ _ h4 => zz_un (h4 i hi)
theorem tw_F.ux {x : Nat} {ad : Nat → Nat} {h : zz_H} {e : va_E} : tw_F x ad h (zz_up h x e) := fun _ h3 _ => zz_un h3
section TWX
variable {D : va_G} {h : zz_H} {x : Nat} {ad : Nat → Nat} {a ah hi : Nat → Int32} {kp : Nat} {sl sv pd : Nat → Int32} {len : Nat} {so : Nat → Int32} {pos wr : Int32} {to : Nat → Int32}
theorem tw_X.M (H : tw_X D h x ad a ah hi kp sl sv pd len so pos wr to) : tw_M D h x (ad 0) a := ⟨_, H.1, rfl, H.2.1⟩
theorem tw_X.nx (H : tw_X D h x ad a ah hi kp sl sv pd len so pos wr to) : ∀ i : Nat, i < 8 → x ≠ ad i := by
  obtain ⟨hx, h0, h1, h2, h3, h4, h5, h6, h7, hd⟩ := H
  intro i hi8
  match i, hi8 with
  | 0, _ => exact zz_xi hx h0
  | 1, _ => exact zz_xi hx h1
  | 2, _ => exact zz_xi hx h2
  | 3, _ => exact zz_xi hx h3
  | 4, _ => exact zz_xi hx h4
  | 5, _ => exact zz_xi hx h5
  | 6, _ => exact zz_xi hx h6
  | 7, _ => exact zz_xi hx h7
theorem tw_X.u0 (H : tw_X D h x ad a ah hi kp sl sv pd len so pos wr to) (a' : Nat → Int32) : tw_X D (zz_up h (ad 0) (.inl (D.1 100, 324, .inl a'))) x ad a' ah hi kp sl sv pd len so pos wr to := by
  have hn := H.nx
  obtain ⟨hx, h0, h1, h2, h3, h4, h5, h6, h7, hd⟩ := H
  exact ⟨zz_lk3 (hn 0 (by decide)) hx, zz_us, zz_lk3 (hd 1 0 (by decide) (by decide) (by decide)) h1, zz_lk3 (hd 2 0 (by decide) (by decide) (by decide)) h2, zz_lk3 (hd 3 0 (by decide) (by decide) (by decide)) h3, zz_lk3 (hd 4 0 (by decide) (by decide) (by decide)) h4, zz_lk3 (hd 5 0 (by decide) (by decide) (by decide)) h5, zz_lk3 (hd 6 0 (by decide) (by decide) (by decide)) h6, zz_lk3 (hd 7 0 (by decide) (by decide) (by decide)) h7, hd⟩
theorem tw_X.u1 (H : tw_X D h x ad a ah hi kp sl sv pd len so pos wr to) (a' : Nat → Int32) : tw_X D (zz_up h (ad 1) (.inl (D.1 100, 324, .inl a'))) x ad a a' hi kp sl sv pd len so pos wr to := by
  have hn := H.nx
  obtain ⟨hx, h0, h1, h2, h3, h4, h5, h6, h7, hd⟩ := H
  exact ⟨zz_lk3 (hn 1 (by decide)) hx, zz_lk3 (hd 0 1 (by decide) (by decide) (by decide)) h0, zz_us, zz_lk3 (hd 2 1 (by decide) (by decide) (by decide)) h2, zz_lk3 (hd 3 1 (by decide) (by decide) (by decide)) h3, zz_lk3 (hd 4 1 (by decide) (by decide) (by decide)) h4, zz_lk3 (hd 5 1 (by decide) (by decide) (by decide)) h5, zz_lk3 (hd 6 1 (by decide) (by decide) (by decide)) h6, zz_lk3 (hd 7 1 (by decide) (by decide) (by decide)) h7, hd⟩
theorem tw_X.u2 (H : tw_X D h x ad a ah hi kp sl sv pd len so pos wr to) (a' : Nat → Int32) : tw_X D (zz_up h (ad 2) (.inl (D.1 100, 1944, .inl a'))) x ad a ah a' kp sl sv pd len so pos wr to := by
  have hn := H.nx
  obtain ⟨hx, h0, h1, h2, h3, h4, h5, h6, h7, hd⟩ := H
  exact ⟨zz_lk3 (hn 2 (by decide)) hx, zz_lk3 (hd 0 2 (by decide) (by decide) (by decide)) h0, zz_lk3 (hd 1 2 (by decide) (by decide) (by decide)) h1, zz_us, zz_lk3 (hd 3 2 (by decide) (by decide) (by decide)) h3, zz_lk3 (hd 4 2 (by decide) (by decide) (by decide)) h4, zz_lk3 (hd 5 2 (by decide) (by decide) (by decide)) h5, zz_lk3 (hd 6 2 (by decide) (by decide) (by decide)) h6, zz_lk3 (hd 7 2 (by decide) (by decide) (by decide)) h7, hd⟩
theorem tw_X.u3 (H : tw_X D h x ad a ah hi kp sl sv pd len so pos wr to) (a' : Nat → Int32) : tw_X D (zz_up h (ad 3) (.inl (D.1 100, 648, .inl a'))) x ad a ah hi kp a' sv pd len so pos wr to := by
  have hn := H.nx
  obtain ⟨hx, h0, h1, h2, h3, h4, h5, h6, h7, hd⟩ := H
  exact ⟨zz_lk3 (hn 3 (by decide)) hx, zz_lk3 (hd 0 3 (by decide) (by decide) (by decide)) h0, zz_lk3 (hd 1 3 (by decide) (by decide) (by decide)) h1, zz_lk3 (hd 2 3 (by decide) (by decide) (by decide)) h2, zz_us, zz_lk3 (hd 4 3 (by decide) (by decide) (by decide)) h4, zz_lk3 (hd 5 3 (by decide) (by decide) (by decide)) h5, zz_lk3 (hd 6 3 (by decide) (by decide) (by decide)) h6, zz_lk3 (hd 7 3 (by decide) (by decide) (by decide)) h7, hd⟩
theorem tw_X.u4 (H : tw_X D h x ad a ah hi kp sl sv pd len so pos wr to) (a' : Nat → Int32) : tw_X D (zz_up h (ad 4) (.inl (D.1 101, 2, .inl a'))) x ad a ah hi kp sl a' pd len so pos wr to := by
  have hn := H.nx
  obtain ⟨hx, h0, h1, h2, h3, h4, h5, h6, h7, hd⟩ := H
  exact ⟨zz_lk3 (hn 4 (by decide)) hx, zz_lk3 (hd 0 4 (by decide) (by decide) (by decide)) h0, zz_lk3 (hd 1 4 (by decide) (by decide) (by decide)) h1, zz_lk3 (hd 2 4 (by decide) (by decide) (by decide)) h2, zz_lk3 (hd 3 4 (by decide) (by decide) (by decide)) h3, zz_us, zz_lk3 (hd 5 4 (by decide) (by decide) (by decide)) h5, zz_lk3 (hd 6 4 (by decide) (by decide) (by decide)) h6, zz_lk3 (hd 7 4 (by decide) (by decide) (by decide)) h7, hd⟩
theorem tw_X.u5 (H : tw_X D h x ad a ah hi kp sl sv pd len so pos wr to) (a' : Nat → Int32) : tw_X D (zz_up h (ad 5) (.inl (D.1 100, 80, .inl a'))) x ad a ah hi kp sl sv a' len so pos wr to := by
  have hn := H.nx
  obtain ⟨hx, h0, h1, h2, h3, h4, h5, h6, h7, hd⟩ := H
  exact ⟨zz_lk3 (hn 5 (by decide)) hx, zz_lk3 (hd 0 5 (by decide) (by decide) (by decide)) h0, zz_lk3 (hd 1 5 (by decide) (by decide) (by decide)) h1, zz_lk3 (hd 2 5 (by decide) (by decide) (by decide)) h2, zz_lk3 (hd 3 5 (by decide) (by decide) (by decide)) h3, zz_lk3 (hd 4 5 (by decide) (by decide) (by decide)) h4, zz_us, zz_lk3 (hd 6 5 (by decide) (by decide) (by decide)) h6, zz_lk3 (hd 7 5 (by decide) (by decide) (by decide)) h7, hd⟩
theorem tw_X.u6 (H : tw_X D h x ad a ah hi kp sl sv pd len so pos wr to) (a' : Nat → Int32) : tw_X D (zz_up h (ad 6) (.inl (D.1 100, 3, .inl a'))) x ad a ah hi kp sl sv pd len a' pos wr to := by
  have hn := H.nx
  obtain ⟨hx, h0, h1, h2, h3, h4, h5, h6, h7, hd⟩ := H
  exact ⟨zz_lk3 (hn 6 (by decide)) hx, zz_lk3 (hd 0 6 (by decide) (by decide) (by decide)) h0, zz_lk3 (hd 1 6 (by decide) (by decide) (by decide)) h1, zz_lk3 (hd 2 6 (by decide) (by decide) (by decide)) h2, zz_lk3 (hd 3 6 (by decide) (by decide) (by decide)) h3, zz_lk3 (hd 4 6 (by decide) (by decide) (by decide)) h4, zz_lk3 (hd 5 6 (by decide) (by decide) (by decide)) h5, zz_us, zz_lk3 (hd 7 6 (by decide) (by decide) (by decide)) h7, hd⟩
theorem tw_X.u7 (H : tw_X D h x ad a ah hi kp sl sv pd len so pos wr to) (a' : Nat → Int32) : tw_X D (zz_up h (ad 7) (.inl (D.1 100, 5, .inl a'))) x ad a ah hi kp sl sv pd len so pos wr a' := by
  have hn := H.nx
  obtain ⟨hx, h0, h1, h2, h3, h4, h5, h6, h7, hd⟩ := H
  exact ⟨zz_lk3 (hn 7 (by decide)) hx, zz_lk3 (hd 0 7 (by decide) (by decide) (by decide)) h0, zz_lk3 (hd 1 7 (by decide) (by decide) (by decide)) h1, zz_lk3 (hd 2 7 (by decide) (by decide) (by decide)) h2, zz_lk3 (hd 3 7 (by decide) (by decide) (by decide)) h3, zz_lk3 (hd 4 7 (by decide) (by decide) (by decide)) h4, zz_lk3 (hd 5 7 (by decide) (by decide) (by decide)) h5, zz_lk3 (hd 6 7 (by decide) (by decide) (by decide)) h6, zz_us, hd⟩
theorem tw_X.fx (H : tw_X D h x ad a ah hi kp sl sv pd len so pos wr to) (kp' len' : Nat) (pos' wr' : Int32) : tw_X D (zz_up h x (.inr (6, [.ref (ad 0), .ref (ad 1), .ref (ad 2), .int (nI kp'), .ref (ad 3), .ref (ad 4), .ref (ad 5), .int (nI len'), .ref (ad 6), .int pos', .int wr', .ref (ad 7)]))) x ad a ah hi kp' sl sv pd len' so pos' wr' to := by
  have hn := H.nx
  obtain ⟨hx, h0, h1, h2, h3, h4, h5, h6, h7, hd⟩ := H
  exact ⟨zz_us, zz_lk3 (Ne.symm (hn 0 (by decide))) h0, zz_lk3 (Ne.symm (hn 1 (by decide))) h1, zz_lk3 (Ne.symm (hn 2 (by decide))) h2, zz_lk3 (Ne.symm (hn 3 (by decide))) h3, zz_lk3 (Ne.symm (hn 4 (by decide))) h4, zz_lk3 (Ne.symm (hn 5 (by decide))) h5, zz_lk3 (Ne.symm (hn 6 (by decide))) h6, zz_lk3 (Ne.symm (hn 7 (by decide))) h7, hd⟩
end TWX
