/-! the twin's beginning -/
def tw_i0 : Nat → Int32 := upd (upd (upd (upd (fun _ => 0) 0 2) 1 12) 2 (-3)) 3 5
def tw_il : Nat → (Nat → Int32)
  | 0 => tw_i0
  | l + 1 => upd (upd (upd (tw_il l) (312 + 4 * l + 0) 4000) (312 + 4 * l + 1) 8000) (312 + 4 * l + 2) 10000
/-- an object x under way, with the cells made for it -/
def tw_N (b0 : Nat) (h0 : zz_H) (x : Nat) (hz : zz_H) (o : Nat × List Value) (os : List (Nat × va_E)) : Prop := hz x = some (.inr o) ∧ (∀ q ∈ os, hz q.1 = some q.2 ∧ h0 q.1 = none ∧ q.1 ≠ x ∧ b0 ≤ q.1) ∧ os.Pairwise (fun p q => p.1 ≠ q.1) ∧ (∀ y : Nat, y ≠ x → (∀ q ∈ os, y ≠ q.1) → hz y = h0 y)
theorem tw_N.z {b0 : Nat} {h0 : zz_H} {x : Nat} {o : Nat × List Value} (h : h0 x = some (.inr o)) : tw_N b0 h0 x h0 o [] := ⟨h, fun q hq => absurd hq List.not_mem_nil, List.Pairwise.nil, fun _ _ _ => rfl⟩
theorem tw_N.s {b0 : Nat} {h0 hz : zz_H} {x : Nat} {o o' : Nat × List Value} {os : List (Nat × va_E)} {p : Nat} {e : va_E} (N : tw_N b0 h0 x hz o os) (hp : hz p = none) (hb : b0 ≤ p) : tw_N b0 h0 x (zz_up (zz_up hz p e) x (.inr o')) o' ((p, e) :: os) := by
  obtain ⟨h1, h2, h3, h4⟩ := N
  have hpx : p ≠ x := fun q => by rw [q, h1] at hp; cases hp
  have hpo : ∀ q ∈ os, p ≠ q.1 := fun q hq qq => by rw [qq, (h2 q hq).1] at hp; cases hp
  refine ⟨zz_us, ?_, List.Pairwise.cons hpo h3, ?_⟩
  · intro q hq
    rcases List.mem_cons.mp hq with rfl | hq
    · refine ⟨?_, ?_, hpx, hb⟩
      · rw [zz_un hpx]; exact zz_us
      · rw [← h4 p hpx hpo]; exact hp
    · obtain ⟨g1, g2, g3, g4⟩ := h2 q hq
      refine ⟨?_, g2, g3, g4⟩
      rw [zz_un g3, zz_un (Ne.symm (hpo q hq))]
      exact g1
  · intro y hy ho
    rw [zz_un hy, zz_un (ho _ List.mem_cons_self)]
    exact h4 y hy (fun q hq => ho q (List.mem_cons_of_mem _ hq))
/-- eight addresses in a row -/
def tw_ad (o0 o1 o2 o3 o4 o5 o6 o7 : Nat) : Nat → Nat
  | 0 => o0 | 1 => o1 | 2 => o2 | 3 => o3 | 4 => o4 | 5 => o5 | 6 => o6 | _ => o7
/-- the twin, made -/
def tw_B (D : va_G) (b0 : Nat) (h h' : zz_H) (x : Nat) : Prop := ∃ ad : Nat → Nat, tw_X D h' x ad (tw_il 3) (fun _ => 0) (fun _ => 0) 0 (fun _ => 0) (fun _ => 0) (fun _ => 0) 0 (fun _ => 0) 0 0 (fun _ => 0) ∧ tw_F x ad h h' ∧ ∀ i : Nat, i < 8 → h (ad i) = none ∧ b0 ≤ ad i
theorem tw_N.X {D : va_G} {b0 : Nat} {h0 hz : zz_H} {x o0 o1 o2 o3 o4 o5 o6 o7 : Nat} (N : tw_N b0 h0 x hz (6, [.ref o0, .ref o1, .ref o2, .int (nI 0), .ref o3, .ref o4, .ref o5, .int (nI 0), .ref o6, .int 0, .int 0, .ref o7]) [(o7, .inl (D.1 100, 5, .inl (fun _ => 0))), (o6, .inl (D.1 100, 3, .inl (fun _ => 0))), (o5, .inl (D.1 100, 80, .inl (fun _ => 0))), (o4, .inl (D.1 101, 2, .inl (fun _ => 0))), (o3, .inl (D.1 100, 648, .inl (fun _ => 0))), (o2, .inl (D.1 100, 1944, .inl (fun _ => 0))), (o1, .inl (D.1 100, 324, .inl (fun _ => 0))), (o0, .inl (D.1 100, 324, .inl (fun _ => 0)))]) : tw_X D hz x (tw_ad o0 o1 o2 o3 o4 o5 o6 o7) (fun _ => 0) (fun _ => 0) (fun _ => 0) 0 (fun _ => 0) (fun _ => 0) (fun _ => 0) 0 (fun _ => 0) 0 0 (fun _ => 0) ∧ tw_F x (tw_ad o0 o1 o2 o3 o4 o5 o6 o7) h0 hz ∧ ∀ i : Nat, i < 8 → h0 (tw_ad o0 o1 o2 o3 o4 o5 o6 o7 i) = none ∧ b0 ≤ tw_ad o0 o1 o2 o3 o4 o5 o6 o7 i := by
  obtain ⟨h1, h2, h3, h4⟩ := N
  simp only [List.mem_cons, List.not_mem_nil, or_false, forall_eq_or_imp, forall_eq] at h2 h4
  simp only [List.pairwise_cons, List.mem_cons, List.not_mem_nil, or_false, forall_eq_or_imp, forall_eq, List.Pairwise.nil, and_true, false_implies, implies_true] at h3
  obtain ⟨g7, g6, g5, g4, g3, g2, g1, g0⟩ := h2
  refine ⟨⟨h1, g0.1, g1.1, g2.1, g3.1, g4.1, g5.1, g6.1, g7.1, ?_⟩, ?_, ?_⟩
  · obtain ⟨⟨k76, k75, k74, k73, k72, k71, k70⟩, ⟨k65, k64, k63, k62, k61, k60⟩, ⟨k54, k53, k52, k51, k50⟩, ⟨k43, k42, k41, k40⟩, ⟨k32, k31, k30⟩, ⟨k21, k20⟩, k10⟩ := h3
    have key : ∀ i j : Nat, i < 8 → j < i → tw_ad o0 o1 o2 o3 o4 o5 o6 o7 i ≠ tw_ad o0 o1 o2 o3 o4 o5 o6 o7 j := by
      intro i j hi hj
      match i, hi with
      | 0, _ => omega
      | 1, _ => match j, hj with | 0, _ => exact k10
      | 2, _ => match j, hj with | 0, _ => exact k20 | 1, _ => exact k21
      | 3, _ => match j, hj with | 0, _ => exact k30 | 1, _ => exact k31 | 2, _ => exact k32
      | 4, _ => match j, hj with | 0, _ => exact k40 | 1, _ => exact k41 | 2, _ => exact k42 | 3, _ => exact k43
      | 5, _ => match j, hj with | 0, _ => exact k50 | 1, _ => exact k51 | 2, _ => exact k52 | 3, _ => exact k53 | 4, _ => exact k54
      | 6, _ => match j, hj with | 0, _ => exact k60 | 1, _ => exact k61 | 2, _ => exact k62 | 3, _ => exact k63 | 4, _ => exact k64 | 5, _ => exact k65
      | 7, _ => match j, hj with | 0, _ => exact k70 | 1, _ => exact k71 | 2, _ => exact k72 | 3, _ => exact k73 | 4, _ => exact k74 | 5, _ => exact k75 | 6, _ => exact k76
    intro i j hi hj hij
    rcases Nat.lt_or_gt_of_ne hij with hl | hl
    · exact Ne.symm (key j i hj hl)
    · exact key i j hi hl
  · intro y hy hyi
    exact h4 y hy ⟨hyi 7 (by decide), hyi 6 (by decide), hyi 5 (by decide), hyi 4 (by decide), hyi 3 (by decide), hyi 2 (by decide), hyi 1 (by decide), hyi 0 (by decide)⟩
  · intro i hi
    match i, hi with
    | 0, _ => exact ⟨g0.2.1, g0.2.2.2⟩
    | 1, _ => exact ⟨g1.2.1, g1.2.2.2⟩
    | 2, _ => exact ⟨g2.2.1, g2.2.2.2⟩
    | 3, _ => exact ⟨g3.2.1, g3.2.2.2⟩
    | 4, _ => exact ⟨g4.2.1, g4.2.2.2⟩
    | 5, _ => exact ⟨g5.2.1, g5.2.2.2⟩
    | 6, _ => exact ⟨g6.2.1, g6.2.2.2⟩
    | 7, _ => exact ⟨g7.2.1, g7.2.2.2⟩
