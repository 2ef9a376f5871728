/-! the quarry, made -/
/-- all that was there before is there, apart from the cell q itself -/
def iq_F (q : Nat) (h : zz_H) (ow : Nat → Nat × Nat) (h' : zz_H) (ow' : Nat → Nat × Nat) : Prop := ∀ (y : Nat) (e : va_E), h y = some e → y ≠ q → h' y = some e ∧ ow' y = ow y
theorem iq_F.up {q x : Nat} {h h' : zz_H} {ow ow' : Nat → Nat × Nat} {e : va_E} (F : iq_F q h ow h' ow') (hx : h x = none) : iq_F q h ow (zz_up h' x e) ow' := fun y e' he hy => ⟨(zz_un (fun g => by rw [g, hx] at he; cases he)).trans (F y e' he hy).1, (F y e' he hy).2⟩
def qu_ad (q o1 o2 o3 o4 o5 o6 o8 : Nat) : Nat → Nat
  | 1 => o1 | 2 => o2 | 3 => o3 | 4 => o4 | 5 => o5 | 6 => o6 | 8 => o8 | _ => q
def qu_ow (ow : Nat → Nat × Nat) (q o1 o2 o3 o4 o5 o6 o8 : Nat) : Nat → Nat × Nat := fun y => if y = q then (q, 0) else if y = o1 then (q, 1) else if y = o2 then (q, 2) else if y = o3 then (q, 3) else if y = o4 then (q, 4) else if y = o5 then (q, 5) else if y = o6 then (q, 6) else if y = o8 then (q, 8) else ow y
theorem tw_N.Q {D : va_G} {b0 : Nat} {h0 hz : zz_H} {q o1 o2 o3 o4 o5 o6 o8 : Nat} (N : tw_N b0 h0 q hz (1, [.ref o1, .ref o2, .ref o3, .ref o4, .ref o5, .ref o6, .ref o8, .int 0, .int 0, .int 0, .int 0, .int 0, .int 0]) [(o8, .inr (7, [.int 0, .ref (D.2 1000 3), .int (nI 0)])), (o6, .inr (7, [.int 0, .ref (D.2 1000 3), .int (nI 0)])), (o5, .inl (D.1 100, 3, .inl (fun _ => 0))), (o4, .inl (D.1 100, 3, .inl (fun _ => 0))), (o3, .inl (D.1 100, 3, .inl (fun _ => 0))), (o2, .inl (D.1 100, 3, .inl (fun _ => 0))), (o1, .inl (D.1 100, 4, .inl zz_gF))]) (ow : Nat → Nat × Nat) :
    qu_I D hz (qu_ow ow q o1 o2 o3 o4 o5 o6 o8) q (qu_ad q o1 o2 o3 o4 o5 o6 o8) (fun _ => 0) tw_i0 0 0 ∧ iq_F q h0 ow hz (qu_ow ow q o1 o2 o3 o4 o5 o6 o8) ∧ (∀ t : Nat, t < 3 → h0 (qu_ad q o1 o2 o3 o4 o5 o6 o8 (2 + t)) = none) := by
  obtain ⟨h1, h2, h3, h4⟩ := N
  simp only [List.mem_cons, List.not_mem_nil, or_false, forall_eq_or_imp, forall_eq] at h2 h4
  simp only [List.pairwise_cons, List.mem_cons, List.not_mem_nil, or_false, forall_eq_or_imp, forall_eq, List.Pairwise.nil, and_true, false_implies, implies_true] at h3
  obtain ⟨g8, g6, g5, g4, g3, g2, g1⟩ := h2
  obtain ⟨⟨k86, k85, k84, k83, k82, k81⟩, ⟨k65, k64, k63, k62, k61⟩, ⟨k54, k53, k52, k51⟩, ⟨k43, k42, k41⟩, ⟨k32, k31⟩, k21⟩ := h3
  have w0 : qu_ow ow q o1 o2 o3 o4 o5 o6 o8 q = (q, 0) := if_pos rfl
  have w1 : qu_ow ow q o1 o2 o3 o4 o5 o6 o8 o1 = (q, 1) := by unfold qu_ow; rw [if_neg g1.2.2.1, if_pos rfl]
  have w2 : qu_ow ow q o1 o2 o3 o4 o5 o6 o8 o2 = (q, 2) := by unfold qu_ow; rw [if_neg g2.2.2.1, if_neg k21, if_pos rfl]
  have w3 : qu_ow ow q o1 o2 o3 o4 o5 o6 o8 o3 = (q, 3) := by unfold qu_ow; rw [if_neg g3.2.2.1, if_neg k31, if_neg k32, if_pos rfl]
  have w4 : qu_ow ow q o1 o2 o3 o4 o5 o6 o8 o4 = (q, 4) := by unfold qu_ow; rw [if_neg g4.2.2.1, if_neg k41, if_neg k42, if_neg k43, if_pos rfl]
  have w5 : qu_ow ow q o1 o2 o3 o4 o5 o6 o8 o5 = (q, 5) := by unfold qu_ow; rw [if_neg g5.2.2.1, if_neg k51, if_neg k52, if_neg k53, if_neg k54, if_pos rfl]
  have w6 : qu_ow ow q o1 o2 o3 o4 o5 o6 o8 o6 = (q, 6) := by unfold qu_ow; rw [if_neg g6.2.2.1, if_neg k61, if_neg k62, if_neg k63, if_neg k64, if_neg k65, if_pos rfl]
  have w8 : qu_ow ow q o1 o2 o3 o4 o5 o6 o8 o8 = (q, 8) := by unfold qu_ow; rw [if_neg g8.2.2.1, if_neg k81, if_neg k82, if_neg k83, if_neg k84, if_neg k85, if_neg k86, if_pos rfl]
  refine ⟨⟨h1, w0, ⟨_, g1.1, ?_⟩, ?_, ⟨0, D.2 1000 3, 0, fun _ => none, g6.1, Or.inr ⟨rfl, rfl⟩, Nat.le_refl _, by omega, fun _ _ => rfl, fun i hi => by omega⟩, ⟨0, D.2 1000 3, 0, fun _ => none, g8.1, Or.inr ⟨rfl, rfl⟩, Nat.le_refl _, by omega, fun _ _ => rfl, fun i hi => by omega⟩, fun b hb => by omega, fun o ho => by omega, ?_, by omega⟩, ?_, ?_⟩
  · intro k hk
    match k, hk with
    | 0, _ => rfl
    | 1, _ => rfl
    | 2, _ => rfl
    | 3, _ => rfl
  · intro k hk
    have z : ∀ l : Nat, tw_i0 (312 + 4 * l + k) = 0 := fun l => by
      unfold tw_i0
      rw [up_n (by omega), up_n (by omega), up_n (by omega), up_n (by omega)]
    match k, hk with
    | 0, _ => exact ⟨_, g2.1, fun l _ => (z l).symm⟩
    | 1, _ => exact ⟨_, g3.1, fun l _ => (z l).symm⟩
    | 2, _ => exact ⟨_, g4.1, fun l _ => (z l).symm⟩
    | 3, _ => exact ⟨_, g5.1, fun l _ => (z l).symm⟩
  · intro i hi
    have hi2 : i = 1 ∨ i = 2 ∨ i = 3 ∨ i = 4 ∨ i = 5 ∨ i = 6 ∨ i = 8 := by unfold qu_ro at hi; omega
    rcases hi2 with rfl | rfl | rfl | rfl | rfl | rfl | rfl
    · exact w1
    · exact w2
    · exact w3
    · exact w4
    · exact w5
    · exact w6
    · exact w8
  · intro y e he hy
    have ne : ∀ o : Nat, h0 o = none → y ≠ o := fun o ho g => by rw [g, ho] at he; cases he
    have n1 := ne _ g1.2.1
    have n2 := ne _ g2.2.1
    have n3 := ne _ g3.2.1
    have n4 := ne _ g4.2.1
    have n5 := ne _ g5.2.1
    have n6 := ne _ g6.2.1
    have n8 := ne _ g8.2.1
    refine ⟨(h4 y hy ⟨n8, n6, n5, n4, n3, n2, n1⟩).trans he, ?_⟩
    unfold qu_ow
    rw [if_neg hy, if_neg n1, if_neg n2, if_neg n3, if_neg n4, if_neg n5, if_neg n6, if_neg n8]
  · intro t ht
    match t, ht with
    | 0, _ => exact g2.2.1
    | 1, _ => exact g3.2.1
    | 2, _ => exact g4.2.1
theorem ct_X1_init_2 {l : Launch} {D : va_G} {b0 : Nat} {h : zz_H} {q : Nat} (ow : Nat → Nat × Nat) (hx : h q = some (.inr (1, [.null, .null, .null, .null, .null, .null, .null, .int 0, .int 0, .int 0, .int 0, .int 0, .int 0])))  : zz_Ct l D b0 yX1_init_2 cX1_init_2 5 (none) 4 80 7 22 [.ref q, .int 4000, .int 8000, .int 10000] h (fun v h' => ∃ (ow' : Nat → Nat × Nat) (ad' : Nat → Nat), v = none ∧ qu_I D h' ow' q ad' (fun _ => 0) (tw_il 3) 0 0 ∧ iq_F q h ow h' ow') := by
  refine zz_Ct.of zy_X1_init_2.1 rfl ?_
  intro p e s m below meth c C
  have hN := tw_N.z (b0 := b0) hx
  first | refine zz_aload_n C dX1_init_2_0 rfl ?_ | refine zz_aload_nN C dX1_init_2_0 rfl ?_
  refine zz_objInit C rfl q133 q123 q124 dX1_init_2_1 rfl rfl rfl ?_
  first | refine zz_aload_n C dX1_init_2_4 rfl ?_ | refine zz_aload_nN C dX1_init_2_4 rfl ?_
  refine zz_getsN C rfl (zz_sFIRST C) (nst_0 C) (fun _ h => h) dX1_init_2_5 ?_
  refine zz_cloneF C rfl q136 rfl rfl rfl rfl (by show (_ : Nat) ≤ 22; omega) dX1_init_2_8 (fun o8 n8 b8 => ?_)
  refine zz_castA C rfl zz_us q142 (zz_nmI C) dX1_init_2_11 ?_
  refine zz_put C rfl (zz_uf hx n8) rfl in_X1 tyX1 tyX1_ok nmX1 0 rfl q173 (fun _ h => h) rfl (tyX1_ok 0 (by decide)) (by first | rfl | exact zz_narZ (by first | exact zz_b01 _ | assumption | decide)) rfl (Nat.le_of_ble_eq_true rfl) dX1_init_2_14 ?_
  refine zz_gen (P := fun hz => tw_N b0 h q hz (1, [.ref o8, .null, .null, .null, .null, .null, .null, .int 0, .int 0, .int 0, .int 0, .int 0, .int 0]) [(o8, .inl (D.1 100, 4, .inl zz_gF))]) (hN.s n8 b8) (fun hz hN => ?_)
  have hx := hN.1
  first | refine zz_aload_n C dX1_init_2_17 rfl ?_ | refine zz_aload_nN C dX1_init_2_17 rfl ?_
  refine zz_iconst (v := nI 3) C dX1_init_2_18 (by decide) ?_
  refine zz_newI (N := 3) C rfl (by omega) rfl (by first | decide | (show (_ : Nat) ≤ 22; omega)) dX1_init_2_19 (fun o19 n19 b19 => ?_)
  refine zz_put C rfl (zz_uf hx n19) rfl in_X1 tyX1 tyX1_ok nmX1 1 rfl q175 (fun _ h => h) rfl (tyX1_ok 1 (by decide)) (by first | rfl | exact zz_narZ (by first | exact zz_b01 _ | assumption | decide)) rfl (Nat.le_of_ble_eq_true rfl) dX1_init_2_21 ?_
  refine zz_gen (P := fun hz => tw_N b0 h q hz (1, [.ref o8, .ref o19, .null, .null, .null, .null, .null, .int 0, .int 0, .int 0, .int 0, .int 0, .int 0]) [(o19, .inl (D.1 100, 3, .inl (fun _ => 0))), (o8, .inl (D.1 100, 4, .inl zz_gF))]) (hN.s n19 b19) (fun hz hN => ?_)
  have hx := hN.1
  first | refine zz_aload_n C dX1_init_2_24 rfl ?_ | refine zz_aload_nN C dX1_init_2_24 rfl ?_
  refine zz_iconst (v := nI 3) C dX1_init_2_25 (by decide) ?_
  refine zz_newI (N := 3) C rfl (by omega) rfl (by first | decide | (show (_ : Nat) ≤ 22; omega)) dX1_init_2_26 (fun o26 n26 b26 => ?_)
  refine zz_put C rfl (zz_uf hx n26) rfl in_X1 tyX1 tyX1_ok nmX1 2 rfl q177 (fun _ h => h) rfl (tyX1_ok 2 (by decide)) (by first | rfl | exact zz_narZ (by first | exact zz_b01 _ | assumption | decide)) rfl (Nat.le_of_ble_eq_true rfl) dX1_init_2_28 ?_
  refine zz_gen (P := fun hz => tw_N b0 h q hz (1, [.ref o8, .ref o19, .ref o26, .null, .null, .null, .null, .int 0, .int 0, .int 0, .int 0, .int 0, .int 0]) [(o26, .inl (D.1 100, 3, .inl (fun _ => 0))), (o19, .inl (D.1 100, 3, .inl (fun _ => 0))), (o8, .inl (D.1 100, 4, .inl zz_gF))]) (hN.s n26 b26) (fun hz hN => ?_)
  have hx := hN.1
  first | refine zz_aload_n C dX1_init_2_31 rfl ?_ | refine zz_aload_nN C dX1_init_2_31 rfl ?_
  refine zz_iconst (v := nI 3) C dX1_init_2_32 (by decide) ?_
  refine zz_newI (N := 3) C rfl (by omega) rfl (by first | decide | (show (_ : Nat) ≤ 22; omega)) dX1_init_2_33 (fun o33 n33 b33 => ?_)
  refine zz_put C rfl (zz_uf hx n33) rfl in_X1 tyX1 tyX1_ok nmX1 3 rfl q179 (fun _ h => h) rfl (tyX1_ok 3 (by decide)) (by first | rfl | exact zz_narZ (by first | exact zz_b01 _ | assumption | decide)) rfl (Nat.le_of_ble_eq_true rfl) dX1_init_2_35 ?_
  refine zz_gen (P := fun hz => tw_N b0 h q hz (1, [.ref o8, .ref o19, .ref o26, .ref o33, .null, .null, .null, .int 0, .int 0, .int 0, .int 0, .int 0, .int 0]) [(o33, .inl (D.1 100, 3, .inl (fun _ => 0))), (o26, .inl (D.1 100, 3, .inl (fun _ => 0))), (o19, .inl (D.1 100, 3, .inl (fun _ => 0))), (o8, .inl (D.1 100, 4, .inl zz_gF))]) (hN.s n33 b33) (fun hz hN => ?_)
  have hx := hN.1
  first | refine zz_aload_n C dX1_init_2_38 rfl ?_ | refine zz_aload_nN C dX1_init_2_38 rfl ?_
  refine zz_iconst (v := nI 3) C dX1_init_2_39 (by decide) ?_
  refine zz_newI (N := 3) C rfl (by omega) rfl (by first | decide | (show (_ : Nat) ≤ 22; omega)) dX1_init_2_40 (fun o40 n40 b40 => ?_)
  refine zz_put C rfl (zz_uf hx n40) rfl in_X1 tyX1 tyX1_ok nmX1 4 rfl q181 (fun _ h => h) rfl (tyX1_ok 4 (by decide)) (by first | rfl | exact zz_narZ (by first | exact zz_b01 _ | assumption | decide)) rfl (Nat.le_of_ble_eq_true rfl) dX1_init_2_42 ?_
  refine zz_gen (P := fun hz => tw_N b0 h q hz (1, [.ref o8, .ref o19, .ref o26, .ref o33, .ref o40, .null, .null, .int 0, .int 0, .int 0, .int 0, .int 0, .int 0]) [(o40, .inl (D.1 100, 3, .inl (fun _ => 0))), (o33, .inl (D.1 100, 3, .inl (fun _ => 0))), (o26, .inl (D.1 100, 3, .inl (fun _ => 0))), (o19, .inl (D.1 100, 3, .inl (fun _ => 0))), (o8, .inl (D.1 100, 4, .inl zz_gF))]) (hN.s n40 b40) (fun hz hN => ?_)
  have hx := hN.1
  first | refine zz_aload_n C dX1_init_2_45 rfl ?_ | refine zz_aload_nN C dX1_init_2_45 rfl ?_
  refine zz_new (ci := 7) (fs := [.int 0, .null, .int 0]) (Cn := RJ2) (T := TJ2) (N := 3) C rfl rfl in_J2 tyJ2 tyJ2_ok q143 q144 q93 (by intro j hj; match j, hj with | 0, _ => rfl | 1, _ => rfl | 2, _ => rfl) rfl rfl dX1_init_2_46 (fun o46 n46 b46 => ?_)
  refine zz_dup C dX1_init_2_49 rfl ?_
  refine zz_callI C zy_J2_init (ct_J2_init zz_us) rfl q145 rfl rfl rfl rfl rfl dX1_init_2_50 ⟨Nat.le_of_ble_eq_true rfl, Nat.le_of_ble_eq_true rfl⟩ (fun v hz hp => ?_)
  obtain ⟨rfl, ez⟩ := hp
  rw [zz_upup] at ez
  obtain rfl := ez.symm
  refine zz_putF C rfl (zz_uf hx n46) rfl in_X1 tyX1 tyX1_ok nmX1 5 rfl q183 (fun _ h => h) rfl rfl rfl (tyX1_ok 5 (by decide)) (by first | rfl | exact zz_narZ (by first | exact zz_b01 _ | assumption | decide)) rfl (Nat.le_of_ble_eq_true rfl) dX1_init_2_53 ?_
  refine zz_gen (P := fun hz => tw_N b0 h q hz (1, [.ref o8, .ref o19, .ref o26, .ref o33, .ref o40, .ref o46, .null, .int 0, .int 0, .int 0, .int 0, .int 0, .int 0]) [(o46, .inr (7, [.int 0, .ref (D.2 1000 3), .int (nI 0)])), (o40, .inl (D.1 100, 3, .inl (fun _ => 0))), (o33, .inl (D.1 100, 3, .inl (fun _ => 0))), (o26, .inl (D.1 100, 3, .inl (fun _ => 0))), (o19, .inl (D.1 100, 3, .inl (fun _ => 0))), (o8, .inl (D.1 100, 4, .inl zz_gF))]) (hN.s n46 b46) (fun hz hN => ?_)
  have hx := hN.1
  first | refine zz_aload_n C dX1_init_2_56 rfl ?_ | refine zz_aload_nN C dX1_init_2_56 rfl ?_
  refine zz_new (ci := 7) (fs := [.int 0, .null, .int 0]) (Cn := RJ2) (T := TJ2) (N := 3) C rfl rfl in_J2 tyJ2 tyJ2_ok q143 q144 q93 (by intro j hj; match j, hj with | 0, _ => rfl | 1, _ => rfl | 2, _ => rfl) rfl rfl dX1_init_2_57 (fun o57 n57 b57 => ?_)
  refine zz_dup C dX1_init_2_60 rfl ?_
  refine zz_callI C zy_J2_init (ct_J2_init zz_us) rfl q145 rfl rfl rfl rfl rfl dX1_init_2_61 ⟨Nat.le_of_ble_eq_true rfl, Nat.le_of_ble_eq_true rfl⟩ (fun v hz hp => ?_)
  obtain ⟨rfl, ez⟩ := hp
  rw [zz_upup] at ez
  obtain rfl := ez.symm
  refine zz_putF C rfl (zz_uf hx n57) rfl in_X1 tyX1 tyX1_ok nmX1 6 rfl q185 (fun _ h => h) rfl rfl rfl (tyX1_ok 6 (by decide)) (by first | rfl | exact zz_narZ (by first | exact zz_b01 _ | assumption | decide)) rfl (Nat.le_of_ble_eq_true rfl) dX1_init_2_64 ?_
  refine zz_gen (P := fun hz => tw_N b0 h q hz (1, [.ref o8, .ref o19, .ref o26, .ref o33, .ref o40, .ref o46, .ref o57, .int 0, .int 0, .int 0, .int 0, .int 0, .int 0]) [(o57, .inr (7, [.int 0, .ref (D.2 1000 3), .int (nI 0)])), (o46, .inr (7, [.int 0, .ref (D.2 1000 3), .int (nI 0)])), (o40, .inl (D.1 100, 3, .inl (fun _ => 0))), (o33, .inl (D.1 100, 3, .inl (fun _ => 0))), (o26, .inl (D.1 100, 3, .inl (fun _ => 0))), (o19, .inl (D.1 100, 3, .inl (fun _ => 0))), (o8, .inl (D.1 100, 4, .inl zz_gF))]) (hN.s n57 b57) (fun hz hN => ?_)
  have hx := hN.1
  obtain ⟨hQ, hF, hnw⟩ := hN.Q ow
  refine zz_iconst (v := 0) C dX1_init_2_67 (by decide) ?_
  refine zz_istore C dX1_init_2_68 (by decide) ?_
  have L70 : ∀ (n : Nat) (i : Nat) (hc : zz_H), i ≤ 3 → 4 ≤ i + n → qu_I D hc (qu_ow ow q o8 o19 o26 o33 o40 o46 o57) q (qu_ad q o8 o19 o26 o33 o40 o46 o57) (fun _ => 0) (tw_il i) 0 0 → iq_F q h ow hc (qu_ow ow q o8 o19 o26 o33 o40 o46 o57) → zz_V D b0 5 p l e ({ frames := 4, cells := 7, slots := 22, locals := 80 } : Jvm.Room) s m ([.ref q, .int 4000, .int 8000, .int 10000] : List Value).toArray below meth c (MQ below (zz_Q D b0 (fun v h' => ∃ (ow' : Nat → Nat × Nat) (ad' : Nat → Nat), v = none ∧ qu_I D h' ow' q ad' (fun _ => 0) (tw_il 3) 0 0 ∧ iq_F q h ow h' ow')) ([.ref q, .int 4000, .int 8000, .int 10000] : List Value).toArray s 7 22 (fun q => b0 ≤ q)) 7 22 hc [(0, .ref q), (1, .int 4000), (2, .int 8000), (3, .int 10000), (4, .int (nI i))] 70 [] := by
    intro n
    induction n with
    | zero =>
      intro i hc h1 h2 hQ hF
      exact absurd h2 (by omega)
    | succ n ih =>
      intro i hc h1 h2 hQ hF
      refine zz_iload C dX1_init_2_70 rfl ?_
      refine zz_iconst (v := 3) C dX1_init_2_72 (by decide) ?_
      refine zz_icmp_ge (tgt := 106) C dX1_init_2_73 (by decide) (fun c73 => ?_) (fun c73 => ?_)
      · have hi2 : 3 ≤ i := (nI_leI (a := 3) (by omega) (by omega)).mp c73
        obtain rfl : i = 3 := by omega
        refine zz_vret C dX1_init_2_106 (by first | rfl | exact Nat.ble_eq.mpr (by omega)) (by first | rfl | exact Nat.ble_eq.mpr (by omega)) ?_
        exact ⟨_, _, rfl, hQ, hF⟩
      · have hi2 : i < 3 := Nat.not_le.mp (fun q => c73 (nI_le (a := 3) q (by omega)))
        first | refine zz_aload_n C dX1_init_2_76 rfl ?_ | refine zz_aload_nN C dX1_init_2_76 rfl ?_
        obtain ⟨ff, hff, ef⟩ := hQ.gl 0 (by decide)
        refine zz_get C rfl hQ.gq rfl in_X1 1 rfl q175 (fun _ h => h) (by first | rfl | assumption) dX1_init_2_77 ?_
        refine zz_iload C dX1_init_2_80 rfl ?_
        refine zz_iload_n C dX1_init_2_82 rfl ?_
        first | refine zz_iast2 C rfl (by omega) (by omega) dX1_init_2_83 ?_ | refine zz_iast C hff rfl (by omega) (by omega) dX1_init_2_83 ?_
        refine zz_gen (P := fun h' => qu_I D h' (qu_ow ow q o8 o19 o26 o33 o40 o46 o57) q (qu_ad q o8 o19 o26 o33 o40 o46 o57) (fun _ => 0) (upd (tw_il i) (312 + 4 * i + 0) 4000) 0 0 ∧ iq_F q h ow h' (qu_ow ow q o8 o19 o26 o33 o40 o46 o57)) ⟨hQ.wl (by omega) (by omega) 0 (by decide) ef hi2, hF.up (hnw 0 (by decide))⟩ (fun hz hP => ?_)
        obtain ⟨hQ, hF⟩ := hP
        first | refine zz_aload_n C dX1_init_2_84 rfl ?_ | refine zz_aload_nN C dX1_init_2_84 rfl ?_
        obtain ⟨ff2, hff2, ef2⟩ := hQ.gl 1 (by decide)
        refine zz_get C rfl hQ.gq rfl in_X1 2 rfl q177 (fun _ h => h) (by first | rfl | assumption) dX1_init_2_85 ?_
        refine zz_iload C dX1_init_2_88 rfl ?_
        refine zz_iload_n C dX1_init_2_90 rfl ?_
        first | refine zz_iast2 C rfl (by omega) (by omega) dX1_init_2_91 ?_ | refine zz_iast C hff2 rfl (by omega) (by omega) dX1_init_2_91 ?_
        refine zz_gen (P := fun h' => qu_I D h' (qu_ow ow q o8 o19 o26 o33 o40 o46 o57) q (qu_ad q o8 o19 o26 o33 o40 o46 o57) (fun _ => 0) (upd (upd (tw_il i) (312 + 4 * i + 0) 4000) (312 + 4 * i + 1) 8000) 0 0 ∧ iq_F q h ow h' (qu_ow ow q o8 o19 o26 o33 o40 o46 o57)) ⟨hQ.wl (by omega) (by omega) 1 (by decide) ef2 hi2, hF.up (hnw 1 (by decide))⟩ (fun hz hP => ?_)
        obtain ⟨hQ, hF⟩ := hP
        first | refine zz_aload_n C dX1_init_2_92 rfl ?_ | refine zz_aload_nN C dX1_init_2_92 rfl ?_
        obtain ⟨ff3, hff3, ef3⟩ := hQ.gl 2 (by decide)
        refine zz_get C rfl hQ.gq rfl in_X1 3 rfl q179 (fun _ h => h) (by first | rfl | assumption) dX1_init_2_93 ?_
        refine zz_iload C dX1_init_2_96 rfl ?_
        refine zz_iload_n C dX1_init_2_98 rfl ?_
        first | refine zz_iast2 C rfl (by omega) (by omega) dX1_init_2_99 ?_ | refine zz_iast C hff3 rfl (by omega) (by omega) dX1_init_2_99 ?_
        refine zz_gen (P := fun h' => qu_I D h' (qu_ow ow q o8 o19 o26 o33 o40 o46 o57) q (qu_ad q o8 o19 o26 o33 o40 o46 o57) (fun _ => 0) (upd (upd (upd (tw_il i) (312 + 4 * i + 0) 4000) (312 + 4 * i + 1) 8000) (312 + 4 * i + 2) 10000) 0 0 ∧ iq_F q h ow h' (qu_ow ow q o8 o19 o26 o33 o40 o46 o57)) ⟨hQ.wl (by omega) (by omega) 2 (by decide) ef3 hi2, hF.up (hnw 2 (by decide))⟩ (fun hz hP => ?_)
        obtain ⟨hQ, hF⟩ := hP
        refine zz_iinc C dX1_init_2_100 rfl (by first | exact nI_1 _ | exact (rfl : _ + Int32.ofInt 1 = _ + 1)) (by decide) ?_
        refine zz_goto (tgt := 70) C dX1_init_2_103 (by decide) ?_
        exact zz_loc2 (ih (i + 1) hz (by omega) (by omega) hQ hF) ⟨rfl, rfl, rfl, rfl, rfl, trivial⟩
  exact zz_loc2 (L70 4 0 _ (by omega) (by omega) hQ hF) ⟨rfl, rfl, rfl, rfl, rfl, trivial⟩

theorem ct_X1_init {l : Launch} {D : va_G} {b0 : Nat} {h : zz_H} {q : Nat} (ow : Nat → Nat × Nat) (hx : h q = some (.inr (1, [.null, .null, .null, .null, .null, .null, .null, .int 0, .int 0, .int 0, .int 0, .int 0, .int 0])))  : zz_Ct l D b0 yX1_init cX1_init 1 (none) 5 104 7 22 [.ref q] h (fun v h' => ∃ (ow' : Nat → Nat × Nat) (ad' : Nat → Nat), v = none ∧ qu_I D h' ow' q ad' (fun _ => 0) (tw_il 3) 0 0 ∧ iq_F q h ow h' ow') := by
  refine zz_Ct.of zy_X1_init.1 rfl ?_
  intro p e s m below meth c C
  first | refine zz_aload_n C dX1_init_0 rfl ?_ | refine zz_aload_nN C dX1_init_0 rfl ?_
  refine zz_sipush (v := 4000) C dX1_init_1 (by decide) ?_
  refine zz_sipush (v := 8000) C dX1_init_4 (by decide) ?_
  refine zz_sipush (v := 10000) C dX1_init_7 (by decide) ?_
  refine zz_callI C zy_X1_init_2 (ct_X1_init_2 ow hx) rfl q130 rfl rfl rfl rfl rfl dX1_init_10 ⟨Nat.le_of_ble_eq_true rfl, Nat.le_of_ble_eq_true rfl⟩ (fun v hz hp => ?_)
  obtain ⟨ow', ad', rfl, hQ2, hF2⟩ := hp
  refine zz_vret C dX1_init_13 rfl rfl ?_
  exact ⟨_, _, rfl, hQ2, hF2⟩

