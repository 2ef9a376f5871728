/-! the component: sizes, blocks, orders -/
theorem so_u {m m' x y w : Int32} (h1 : x.toInt ≤ m.toInt) (h2 : y.toInt ≤ m.toInt) (h3 : w.toInt ≤ m.toInt) (h4 : m = x ∨ m = y ∨ m = w) (g1 : x.toInt ≤ m'.toInt) (g2 : y.toInt ≤ m'.toInt) (g3 : w.toInt ≤ m'.toInt) (g4 : m' = x ∨ m' = y ∨ m' = w) : m = m' := by
  apply Int32.toInt_inj.mp
  rcases h4 with e | e | e <;> rcases g4 with e2 | e2 | e2 <;> subst e <;> subst e2 <;> omega
theorem so_d {m m' x y w : Int32} (h1 : m.toInt ≤ x.toInt) (h2 : m.toInt ≤ y.toInt) (h3 : m.toInt ≤ w.toInt) (h4 : m = x ∨ m = y ∨ m = w) (g1 : m'.toInt ≤ x.toInt) (g2 : m'.toInt ≤ y.toInt) (g3 : m'.toInt ≤ w.toInt) (g4 : m' = x ∨ m' = y ∨ m' = w) : m = m' := by
  apply Int32.toInt_inj.mp
  rcases h4 with e | e | e <;> rcases g4 with e2 | e2 | e2 <;> subst e <;> subst e2 <;> omega
theorem so_mx (x y : Int32) : x.toInt ≤ (if x < y then y else x).toInt ∧ y.toInt ≤ (if x < y then y else x).toInt ∧ ((if x < y then y else x) = x ∨ (if x < y then y else x) = y) := by
  by_cases h : x < y
  · rw [if_pos h]
    rw [Int32.lt_iff_toInt_lt] at h
    exact ⟨by omega, by omega, Or.inr rfl⟩
  · rw [if_neg h]
    rw [Int32.lt_iff_toInt_lt] at h
    exact ⟨by omega, by omega, Or.inl rfl⟩
theorem so_mn (x y : Int32) : (if y < x then y else x).toInt ≤ x.toInt ∧ (if y < x then y else x).toInt ≤ y.toInt ∧ ((if y < x then y else x) = x ∨ (if y < x then y else x) = y) := by
  by_cases h : y < x
  · rw [if_pos h]
    rw [Int32.lt_iff_toInt_lt] at h
    exact ⟨by omega, by omega, Or.inr rfl⟩
  · rw [if_neg h]
    rw [Int32.lt_iff_toInt_lt] at h
    exact ⟨by omega, by omega, Or.inl rfl⟩
theorem so_hi (x y : Int32) : x.toInt ≤ (qa_hi x y).toInt ∧ y.toInt ≤ (qa_hi x y).toInt ∧ (qa_hi x y = x ∨ qa_hi x y = y) := by
  unfold qa_hi
  by_cases h : x ≤ y
  · rw [if_pos h]
    rw [Int32.le_iff_toInt_le] at h
    exact ⟨by omega, by omega, Or.inr rfl⟩
  · rw [if_neg h]
    rw [Int32.le_iff_toInt_le] at h
    exact ⟨by omega, by omega, Or.inl rfl⟩
theorem so_lw (x y : Int32) : (qa_lw x y).toInt ≤ x.toInt ∧ (qa_lw x y).toInt ≤ y.toInt ∧ (qa_lw x y = x ∨ qa_lw x y = y) := by
  unfold qa_lw
  by_cases h : x ≤ y
  · rw [if_pos h]
    rw [Int32.le_iff_toInt_le] at h
    exact ⟨by omega, by omega, Or.inl rfl⟩
  · rw [if_neg h]
    rw [Int32.le_iff_toInt_le] at h
    exact ⟨by omega, by omega, Or.inr rfl⟩
theorem so_s0 (x y z : Int32) : x.toInt ≤ (qa_s0 x y z).toInt ∧ y.toInt ≤ (qa_s0 x y z).toInt ∧ z.toInt ≤ (qa_s0 x y z).toInt ∧ (qa_s0 x y z = x ∨ qa_s0 x y z = y ∨ qa_s0 x y z = z) := by
  obtain ⟨h1, h2, h3⟩ := so_hi x y
  unfold qa_s0
  by_cases h : z ≤ qa_hi x y
  · rw [if_pos h]
    rw [Int32.le_iff_toInt_le] at h
    exact ⟨h1, h2, h, h3.elim Or.inl (fun e => Or.inr (Or.inl e))⟩
  · rw [if_neg h]
    rw [Int32.le_iff_toInt_le] at h
    exact ⟨by omega, by omega, by omega, Or.inr (Or.inr rfl)⟩
theorem so_s2 (x y z : Int32) : (qa_s2 x y z).toInt ≤ x.toInt ∧ (qa_s2 x y z).toInt ≤ y.toInt ∧ (qa_s2 x y z).toInt ≤ z.toInt ∧ (qa_s2 x y z = x ∨ qa_s2 x y z = y ∨ qa_s2 x y z = z) := by
  obtain ⟨h1, h2, h3⟩ := so_lw x y
  unfold qa_s2
  by_cases h : qa_lw x y ≤ z
  · rw [if_pos h]
    rw [Int32.le_iff_toInt_le] at h
    exact ⟨h1, h2, h, h3.elim Or.inl (fun e => Or.inr (Or.inl e))⟩
  · rw [if_neg h]
    rw [Int32.le_iff_toInt_le] at h
    exact ⟨by omega, by omega, by omega, Or.inr (Or.inr rfl)⟩
theorem so_0 (x y z : Int32) : (if x < (if y < z then z else y) then (if y < z then z else y) else x) = qa_s0 x y z := by
  obtain ⟨a1, a2, a3⟩ := so_mx y z
  obtain ⟨b1, b2, b3⟩ := so_mx x (if y < z then z else y)
  obtain ⟨c1, c2, c3, c4⟩ := so_s0 x y z
  refine so_u b1 (by omega) (by omega) ?_ c1 c2 c3 c4
  rcases b3 with e | e
  · exact Or.inl e
  · rcases a3 with e2 | e2
    · exact Or.inr (Or.inl (e.trans e2))
    · exact Or.inr (Or.inr (e.trans e2))
theorem so_2 (x y z : Int32) : (if (if z < y then z else y) < x then (if z < y then z else y) else x) = qa_s2 x y z := by
  obtain ⟨a1, a2, a3⟩ := so_mn y z
  obtain ⟨b1, b2, b3⟩ := so_mn x (if z < y then z else y)
  obtain ⟨c1, c2, c3, c4⟩ := so_s2 x y z
  refine so_d b1 (by omega) (by omega) ?_ c1 c2 c3 c4
  rcases b3 with e | e
  · exact Or.inl e
  · rcases a3 with e2 | e2
    · exact Or.inr (Or.inl (e.trans e2))
    · exact Or.inr (Or.inr (e.trans e2))
def sz_o (x y z v : Int32) : Int32 := if v = 0 then x else if v = 1 then y else z
theorem sz_o_k (x y z : Int32) : ∀ i : Nat, i < 3 → sz_o x y z (nI i) = if i = 0 then x else if i = 1 then y else z := by
  intro i hi
  match i, hi with
  | 0, _ => rfl
  | 1, _ => rfl
  | 2, _ => rfl
theorem sz_o_f (f : Nat → Int32) : ∀ i : Nat, i < 3 → sz_o (f 0) (f 1) (f 2) (nI i) = f i := by
  intro i hi
  match i, hi with
  | 0, _ => rfl
  | 1, _ => rfl
  | 2, _ => rfl
theorem sz_o_s (x y z : Int32) (i : Nat) (hi : i < 3) : sz_o (qa_s0 x y z) (qa_s1 x y z) (qa_s2 x y z) (nI i) = qa_srt x y z i := sz_o_k _ _ _ i hi
theorem qa_fit_f {a : Nat → Int32} {o k : Nat} {x y z : Int32} (h : qa_fit a o x y z k = false) : ∀ n : Nat, k ≤ n → qa_fit a o x y z n = false
  | 0, hn => by
    have : k = 0 := by omega
    rw [← this]; exact h
  | n + 1, hn => by
    by_cases e : k = n + 1
    · rw [← e]; exact h
    · show (qa_fit a o x y z n && _) = false
      rw [qa_fit_f h n (by omega)]; rfl
theorem qa_exc_f {a : Nat → Int32} {o k : Nat} {x y z : Int32} (hk : k < 3) (h : qa_in (qa_more a o x y z k) 0 (a 3) = false) : qa_exc a o x y z = -6 := by
  unfold qa_exc
  rw [qa_fit_f (k := k + 1) (by show (_ && _) = false; rw [h, Bool.and_false]) 3 (by omega)]
  rfl
theorem ct_X0_isIn {l : Launch} {D : va_G} {b0 : Nat} {h : zz_H} {v0 v1 v2 : Int32} : zz_Ct l D b0 yX0_isIn cX0_isIn 3 (some .boolean) 0 0 0 0 [.int v0, .int v1, .int v2] h (fun v h' => v = some (.int (zz_b (qa_in v0 v1 v2))) ∧ h' = h) := by
  refine zz_Ct.of zy_X0_isIn.1 rfl ?_
  intro p e s m below meth c C
  refine zz_iload_n C dX0_isIn_0 rfl ?_
  refine zz_iload_n C dX0_isIn_1 rfl ?_
  refine zz_icmp_lt (tgt := 14) C dX0_isIn_2 (by decide) (fun c2 => ?_) (fun c2 => ?_)
  · refine zz_iconst (v := 0) C dX0_isIn_14 (by decide) ?_
    refine zz_zret0 C (zz_narZ (by first | exact zz_b01 _ | decide | assumption)) dX0_isIn_15 rfl rfl ?_
    exact ⟨by first | rw [qa_in_t (Int32.not_lt.mp ‹_›) (Int32.not_lt.mp ‹_›)]; rfl | rw [qa_in_f1 ‹_›]; rfl | rw [qa_in_f2 ‹_›]; rfl, rfl⟩
  · refine zz_iload_n C dX0_isIn_5 rfl ?_
    refine zz_iload_n C dX0_isIn_6 rfl ?_
    refine zz_icmp_gt (tgt := 14) C dX0_isIn_7 (by decide) (fun c7 => ?_) (fun c7 => ?_)
    · refine zz_iconst (v := 0) C dX0_isIn_14 (by decide) ?_
      refine zz_zret0 C (zz_narZ (by first | exact zz_b01 _ | decide | assumption)) dX0_isIn_15 rfl rfl ?_
      exact ⟨by first | rw [qa_in_t (Int32.not_lt.mp ‹_›) (Int32.not_lt.mp ‹_›)]; rfl | rw [qa_in_f1 ‹_›]; rfl | rw [qa_in_f2 ‹_›]; rfl, rfl⟩
    · refine zz_iconst (v := 1) C dX0_isIn_10 (by decide) ?_
      refine zz_goto (tgt := 15) C dX0_isIn_11 (by decide) ?_
      refine zz_zret0 C (zz_narZ (by first | exact zz_b01 _ | decide | assumption)) dX0_isIn_15 rfl rfl ?_
      exact ⟨by first | rw [qa_in_t (Int32.not_lt.mp ‹_›) (Int32.not_lt.mp ‹_›)]; rfl | rw [qa_in_f1 ‹_›]; rfl | rw [qa_in_f2 ‹_›]; rfl, rfl⟩

theorem ct_X5_init {l : Launch} {D : va_G} {b0 : Nat} {h : zz_H} {z0 : Nat} {v1 v2 v3 : Int32} (hZ : h z0 = some (.inr (4, [.int 0, .int 0, .int 0])))  : zz_Ct l D b0 yX5_init cX5_init 4 (none) 2 40 0 0 [.ref z0, .int v1, .int v2, .int v3] h (fun v h' => v = none ∧ h' = zz_up h z0 (sz_F v1 v2 v3)) := by
  refine zz_Ct.of zy_X5_init.1 rfl ?_
  intro p e s m below meth c C
  first | refine zz_aload_n C dX5_init_0 rfl ?_ | refine zz_aload_nN C dX5_init_0 rfl ?_
  refine zz_callI C zy_J13_init (ct_J13_init) rfl q548 rfl rfl rfl rfl rfl dX5_init_1 ⟨Nat.le_of_ble_eq_true rfl, Nat.le_of_ble_eq_true rfl⟩ (fun v hz hp => ?_)
  obtain ⟨rfl, ez⟩ := hp
  obtain rfl := ez.symm
  first | refine zz_aload_n C dX5_init_4 rfl ?_ | refine zz_aload_nN C dX5_init_4 rfl ?_
  refine zz_iload_n C dX5_init_5 rfl ?_
  refine zz_putF C rfl (by first | assumption | exact zz_us | exact zz_lk1 (by assumption) (by assumption) | exact zz_lk3 (hd _ _ (by decide) (by decide) (by decide)) (by assumption) | exact zz_uf (by assumption) (by assumption) | exact zz_lk3 (zz_xi (by assumption) (by assumption)) (zz_lk1 (by assumption) (by assumption)) | exact zz_lk3 (hd _ _ (by decide) (by decide) (by decide)) (zz_lk3 (hd _ _ (by decide) (by decide) (by decide)) (by assumption)) | (simp only [zz_up]; simp_all; done)) rfl in_X5 tyX5 tyX5_ok nmX5 0 rfl q552 (fun _ h => h) rfl rfl rfl (tyX5_ok 0 (by decide)) (by first | rfl | exact zz_narZ (by first | exact zz_b01 _ | assumption | decide)) rfl (Nat.le_of_ble_eq_true rfl) dX5_init_6 ?_
  first | refine zz_aload_n C dX5_init_9 rfl ?_ | refine zz_aload_nN C dX5_init_9 rfl ?_
  refine zz_iload_n C dX5_init_10 rfl ?_
  refine zz_putF C rfl (by first | assumption | exact zz_us | exact zz_lk1 (by assumption) (by assumption) | exact zz_lk3 (hd _ _ (by decide) (by decide) (by decide)) (by assumption) | exact zz_uf (by assumption) (by assumption) | exact zz_lk3 (zz_xi (by assumption) (by assumption)) (zz_lk1 (by assumption) (by assumption)) | exact zz_lk3 (hd _ _ (by decide) (by decide) (by decide)) (zz_lk3 (hd _ _ (by decide) (by decide) (by decide)) (by assumption)) | (simp only [zz_up]; simp_all; done)) rfl in_X5 tyX5 tyX5_ok nmX5 1 rfl q553 (fun _ h => h) rfl rfl rfl (tyX5_ok 1 (by decide)) (by first | rfl | exact zz_narZ (by first | exact zz_b01 _ | assumption | decide)) rfl (Nat.le_of_ble_eq_true rfl) dX5_init_11 ?_
  first | refine zz_aload_n C dX5_init_14 rfl ?_ | refine zz_aload_nN C dX5_init_14 rfl ?_
  refine zz_iload_n C dX5_init_15 rfl ?_
  refine zz_putF C rfl (by first | assumption | exact zz_us | exact zz_lk1 (by assumption) (by assumption) | exact zz_lk3 (hd _ _ (by decide) (by decide) (by decide)) (by assumption) | exact zz_uf (by assumption) (by assumption) | exact zz_lk3 (zz_xi (by assumption) (by assumption)) (zz_lk1 (by assumption) (by assumption)) | exact zz_lk3 (hd _ _ (by decide) (by decide) (by decide)) (zz_lk3 (hd _ _ (by decide) (by decide) (by decide)) (by assumption)) | (simp only [zz_up]; simp_all; done)) rfl in_X5 tyX5 tyX5_ok nmX5 2 rfl q554 (fun _ h => h) rfl rfl rfl (tyX5_ok 2 (by decide)) (by first | rfl | exact zz_narZ (by first | exact zz_b01 _ | assumption | decide)) rfl (Nat.le_of_ble_eq_true rfl) dX5_init_16 ?_
  refine zz_vret C dX5_init_19 rfl rfl ?_
  exact ⟨rfl, by rw [zz_upup, zz_upup]; rfl⟩

theorem ct_X5_of {l : Launch} {D : va_G} {b0 : Nat} {h : zz_H} {z0 : Nat} {x0 y0 w0 : Int32} (hZ : h z0 = some (sz_F x0 y0 w0)) {v1 : Int32}  : zz_Ct l D b0 yX5_of cX5_of 2 (some .int) 0 0 0 0 [.ref z0, .int v1] h (fun v h' => v = some (.int (sz_o x0 y0 w0 v1)) ∧ h' = h) := by
  refine zz_Ct.of zy_X5_of.1 rfl ?_
  intro p e s m below meth c C
  refine zz_iload_n C dX5_of_0 rfl ?_
  refine zz_if_ne (tgt := 11) C dX5_of_1 (by decide) (fun c1 => ?_) (fun c1 => ?_)
  · refine zz_iload_n C dX5_of_11 rfl ?_
    refine zz_iconst (v := 1) C dX5_of_12 (by decide) ?_
    refine zz_icmp_ne (tgt := 23) C dX5_of_13 (by decide) (fun c13 => ?_) (fun c13 => ?_)
    · first | refine zz_aload_n C dX5_of_23 rfl ?_ | refine zz_aload_nN C dX5_of_23 rfl ?_
      refine zz_get C rfl (by first | assumption | exact zz_us | exact zz_lk1 (by assumption) (by assumption) | exact zz_lk3 (hd _ _ (by decide) (by decide) (by decide)) (by assumption) | exact zz_uf (by assumption) (by assumption) | exact zz_lk3 (zz_xi (by assumption) (by assumption)) (zz_lk1 (by assumption) (by assumption)) | exact zz_lk3 (hd _ _ (by decide) (by decide) (by decide)) (zz_lk3 (hd _ _ (by decide) (by decide) (by decide)) (by assumption)) | (simp only [zz_up]; simp_all; done)) rfl in_X5 2 rfl q554 (fun _ h => h) (by first | rfl | assumption) dX5_of_24 ?_
      refine zz_iret C dX5_of_27 rfl rfl ?_
      exact ⟨by unfold sz_o; first | (rw [if_pos c1]; done) | (rw [if_neg c1, if_pos c13]; done) | (rw [if_neg c1, if_neg c13]; done) | (simp [*]; done), rfl⟩
    · first | refine zz_aload_n C dX5_of_16 rfl ?_ | refine zz_aload_nN C dX5_of_16 rfl ?_
      refine zz_get C rfl (by first | assumption | exact zz_us | exact zz_lk1 (by assumption) (by assumption) | exact zz_lk3 (hd _ _ (by decide) (by decide) (by decide)) (by assumption) | exact zz_uf (by assumption) (by assumption) | exact zz_lk3 (zz_xi (by assumption) (by assumption)) (zz_lk1 (by assumption) (by assumption)) | exact zz_lk3 (hd _ _ (by decide) (by decide) (by decide)) (zz_lk3 (hd _ _ (by decide) (by decide) (by decide)) (by assumption)) | (simp only [zz_up]; simp_all; done)) rfl in_X5 1 rfl q553 (fun _ h => h) (by first | rfl | assumption) dX5_of_17 ?_
      refine zz_goto (tgt := 27) C dX5_of_20 (by decide) ?_
      refine zz_iret C dX5_of_27 rfl rfl ?_
      exact ⟨by unfold sz_o; first | (rw [if_pos c1]; done) | (rw [if_neg c1, if_pos c13]; done) | (rw [if_neg c1, if_neg c13]; done) | (simp [*]; done), rfl⟩
  · first | refine zz_aload_n C dX5_of_4 rfl ?_ | refine zz_aload_nN C dX5_of_4 rfl ?_
    refine zz_get C rfl (by first | assumption | exact zz_us | exact zz_lk1 (by assumption) (by assumption) | exact zz_lk3 (hd _ _ (by decide) (by decide) (by decide)) (by assumption) | exact zz_uf (by assumption) (by assumption) | exact zz_lk3 (zz_xi (by assumption) (by assumption)) (zz_lk1 (by assumption) (by assumption)) | exact zz_lk3 (hd _ _ (by decide) (by decide) (by decide)) (zz_lk3 (hd _ _ (by decide) (by decide) (by decide)) (by assumption)) | (simp only [zz_up]; simp_all; done)) rfl in_X5 0 rfl q552 (fun _ h => h) (by first | rfl | assumption) dX5_of_5 ?_
    refine zz_goto (tgt := 27) C dX5_of_8 (by decide) ?_
    refine zz_iret C dX5_of_27 rfl rfl ?_
    exact ⟨by unfold sz_o; first | (rw [if_pos c1]; done) | (rw [if_neg c1, if_pos c13]; done) | (rw [if_neg c1, if_neg c13]; done) | (simp [*]; done), rfl⟩

theorem ct_X5_with {l : Launch} {D : va_G} {b0 : Nat} {h : zz_H} {z0 : Nat} {x0 y0 w0 : Int32} (hZ : h z0 = some (sz_F x0 y0 w0)) {v1 v2 : Int32}  : zz_Ct l D b0 yX5_with cX5_with 3 (some (.object "QuarryOrders$Sizes")) 3 63 1 3 [.ref z0, .int v1, .int v2] h (fun v h' => ∃ o : Nat, v = some (.ref o) ∧ h o = none ∧ b0 ≤ o ∧ h' = zz_up h o (sz_F (if v1 = 0 then v2 else x0) (if v1 = 1 then v2 else y0) (if v1 = 2 then v2 else w0))) := by
  refine zz_Ct.of zy_X5_with.1 rfl ?_
  intro p e s m below meth c C
  refine zz_new (ci := 4) (fs := [.int 0, .int 0, .int 0]) (Cn := RX5) (T := TX5) (N := 3) C rfl rfl in_X5 tyX5 tyX5_ok q641 q544 q109 (by intro j hj; match j, hj with | 0, _ => rfl | 1, _ => rfl | 2, _ => rfl) rfl rfl dX5_with_0 (fun o0 n0 b0 => ?_)
  refine zz_dup C dX5_with_3 rfl ?_
  refine zz_joinI (pcJ := 16) (if v1 = 0 then v2 else x0) ?_ ?_
  · rintro z16 rfl
    refine zz_joinI (pcJ := 29) (if v1 = 1 then v2 else y0) ?_ ?_
    · rintro z29 rfl
      refine zz_joinI (pcJ := 42) (if v1 = 2 then v2 else w0) ?_ ?_
      · rintro z42 rfl
        refine zz_callI C zy_X5_init (ct_X5_init zz_us) rfl q642 rfl rfl rfl rfl rfl dX5_with_42 ⟨Nat.le_of_ble_eq_true rfl, Nat.le_of_ble_eq_true rfl⟩ (fun v hz hp => ?_)
        obtain ⟨rfl, ez⟩ := hp
        obtain rfl := ez.symm
        refine zz_aret C (Or.inl ⟨_, rfl⟩) (Or.inr ⟨_, rfl⟩) dX5_with_45 rfl rfl ?_
        exact ⟨o0, rfl, n0, b0, zz_upup⟩
      · intro J42
        refine zz_iload_n C dX5_with_29 rfl ?_
        refine zz_iconst (v := 2) C dX5_with_30 (by decide) ?_
        refine zz_icmp_ne (tgt := 38) C dX5_with_31 (by decide) (fun c31 => ?_) (fun c31 => ?_)
        · first | refine zz_aload_n C dX5_with_38 rfl ?_ | refine zz_aload_nN C dX5_with_38 rfl ?_
          refine zz_get C rfl (by first | assumption | exact zz_us | exact zz_lk1 (by assumption) (by assumption) | exact zz_lk3 (hd _ _ (by decide) (by decide) (by decide)) (by assumption) | exact zz_uf (by assumption) (by assumption) | exact zz_lk3 (zz_xi (by assumption) (by assumption)) (zz_lk1 (by assumption) (by assumption)) | exact zz_lk3 (hd _ _ (by decide) (by decide) (by decide)) (zz_lk3 (hd _ _ (by decide) (by decide) (by decide)) (by assumption)) | (simp only [zz_up]; simp_all; done)) rfl in_X5 2 rfl q554 (fun _ h => h) (by first | rfl | assumption) dX5_with_39 ?_
          exact J42 _ (by first | exact (if_pos c31).symm | exact (if_neg c31).symm | (simp_all; done))
        · refine zz_iload_n C dX5_with_34 rfl ?_
          refine zz_goto (tgt := 42) C dX5_with_35 (by decide) ?_
          exact J42 _ (by first | exact (if_pos c31).symm | exact (if_neg c31).symm | (simp_all; done))
    · intro J29
      refine zz_iload_n C dX5_with_16 rfl ?_
      refine zz_iconst (v := 1) C dX5_with_17 (by decide) ?_
      refine zz_icmp_ne (tgt := 25) C dX5_with_18 (by decide) (fun c18 => ?_) (fun c18 => ?_)
      · first | refine zz_aload_n C dX5_with_25 rfl ?_ | refine zz_aload_nN C dX5_with_25 rfl ?_
        refine zz_get C rfl (by first | assumption | exact zz_us | exact zz_lk1 (by assumption) (by assumption) | exact zz_lk3 (hd _ _ (by decide) (by decide) (by decide)) (by assumption) | exact zz_uf (by assumption) (by assumption) | exact zz_lk3 (zz_xi (by assumption) (by assumption)) (zz_lk1 (by assumption) (by assumption)) | exact zz_lk3 (hd _ _ (by decide) (by decide) (by decide)) (zz_lk3 (hd _ _ (by decide) (by decide) (by decide)) (by assumption)) | (simp only [zz_up]; simp_all; done)) rfl in_X5 1 rfl q553 (fun _ h => h) (by first | rfl | assumption) dX5_with_26 ?_
        exact J29 _ (by first | exact (if_pos c18).symm | exact (if_neg c18).symm | (simp_all; done))
      · refine zz_iload_n C dX5_with_21 rfl ?_
        refine zz_goto (tgt := 29) C dX5_with_22 (by decide) ?_
        exact J29 _ (by first | exact (if_pos c18).symm | exact (if_neg c18).symm | (simp_all; done))
  · intro J16
    refine zz_iload_n C dX5_with_4 rfl ?_
    refine zz_if_ne (tgt := 12) C dX5_with_5 (by decide) (fun c5 => ?_) (fun c5 => ?_)
    · first | refine zz_aload_n C dX5_with_12 rfl ?_ | refine zz_aload_nN C dX5_with_12 rfl ?_
      refine zz_get C rfl (by first | assumption | exact zz_us | exact zz_lk1 (by assumption) (by assumption) | exact zz_lk3 (hd _ _ (by decide) (by decide) (by decide)) (by assumption) | exact zz_uf (by assumption) (by assumption) | exact zz_lk3 (zz_xi (by assumption) (by assumption)) (zz_lk1 (by assumption) (by assumption)) | exact zz_lk3 (hd _ _ (by decide) (by decide) (by decide)) (zz_lk3 (hd _ _ (by decide) (by decide) (by decide)) (by assumption)) | (simp only [zz_up]; simp_all; done)) rfl in_X5 0 rfl q552 (fun _ h => h) (by first | rfl | assumption) dX5_with_13 ?_
      exact J16 _ (by first | exact (if_pos c5).symm | exact (if_neg c5).symm | (simp_all; done))
    · refine zz_iload_n C dX5_with_8 rfl ?_
      refine zz_goto (tgt := 16) C dX5_with_9 (by decide) ?_
      exact J16 _ (by first | exact (if_pos c5).symm | exact (if_neg c5).symm | (simp_all; done))

theorem ct_X5_sorted {l : Launch} {D : va_G} {b0 : Nat} {h : zz_H} {z0 : Nat} {x0 y0 w0 : Int32} (hZ : h z0 = some (sz_F x0 y0 w0))  : zz_Ct l D b0 yX5_sorted cX5_sorted 3 (some (.object "QuarryOrders$Sizes")) 3 63 1 3 [.ref z0] h (fun v h' => ∃ o : Nat, v = some (.ref o) ∧ h o = none ∧ b0 ≤ o ∧ h' = zz_up h o (sz_F (qa_s0 x0 y0 w0) (qa_s1 x0 y0 w0) (qa_s2 x0 y0 w0))) := by
  refine zz_Ct.of zy_X5_sorted.1 rfl ?_
  intro p e s m below meth c C
  first | refine zz_aload_n C dX5_sorted_0 rfl ?_ | refine zz_aload_nN C dX5_sorted_0 rfl ?_
  refine zz_get C rfl (by first | assumption | exact zz_us | exact zz_lk1 (by assumption) (by assumption) | exact zz_lk3 (hd _ _ (by decide) (by decide) (by decide)) (by assumption) | exact zz_uf (by assumption) (by assumption) | exact zz_lk3 (zz_xi (by assumption) (by assumption)) (zz_lk1 (by assumption) (by assumption)) | exact zz_lk3 (hd _ _ (by decide) (by decide) (by decide)) (zz_lk3 (hd _ _ (by decide) (by decide) (by decide)) (by assumption)) | (simp only [zz_up]; simp_all; done)) rfl in_X5 0 rfl q552 (fun _ h => h) (by first | rfl | assumption) dX5_sorted_1 ?_
  first | refine zz_aload_n C dX5_sorted_4 rfl ?_ | refine zz_aload_nN C dX5_sorted_4 rfl ?_
  refine zz_get C rfl (by first | assumption | exact zz_us | exact zz_lk1 (by assumption) (by assumption) | exact zz_lk3 (hd _ _ (by decide) (by decide) (by decide)) (by assumption) | exact zz_uf (by assumption) (by assumption) | exact zz_lk3 (zz_xi (by assumption) (by assumption)) (zz_lk1 (by assumption) (by assumption)) | exact zz_lk3 (hd _ _ (by decide) (by decide) (by decide)) (zz_lk3 (hd _ _ (by decide) (by decide) (by decide)) (by assumption)) | (simp only [zz_up]; simp_all; done)) rfl in_X5 1 rfl q553 (fun _ h => h) (by first | rfl | assumption) dX5_sorted_5 ?_
  first | refine zz_aload_n C dX5_sorted_8 rfl ?_ | refine zz_aload_nN C dX5_sorted_8 rfl ?_
  refine zz_get C rfl (by first | assumption | exact zz_us | exact zz_lk1 (by assumption) (by assumption) | exact zz_lk3 (hd _ _ (by decide) (by decide) (by decide)) (by assumption) | exact zz_uf (by assumption) (by assumption) | exact zz_lk3 (zz_xi (by assumption) (by assumption)) (zz_lk1 (by assumption) (by assumption)) | exact zz_lk3 (hd _ _ (by decide) (by decide) (by decide)) (zz_lk3 (hd _ _ (by decide) (by decide) (by decide)) (by assumption)) | (simp only [zz_up]; simp_all; done)) rfl in_X5 2 rfl q554 (fun _ h => h) (by first | rfl | assumption) dX5_sorted_9 ?_
  refine zz_mmax C rfl q680 dX5_sorted_12 rfl rfl rfl (by show (_ : Nat) ≤ 1; omega) (by show (_ : Nat) ≤ 3; omega) ?_
  refine zz_mmax C rfl q680 dX5_sorted_15 rfl rfl rfl (by show (_ : Nat) ≤ 1; omega) (by show (_ : Nat) ≤ 3; omega) ?_
  rw [so_0]
  refine zz_istore_n C dX5_sorted_18 (by decide) ?_
  first | refine zz_aload_n C dX5_sorted_19 rfl ?_ | refine zz_aload_nN C dX5_sorted_19 rfl ?_
  refine zz_get C rfl (by first | assumption | exact zz_us | exact zz_lk1 (by assumption) (by assumption) | exact zz_lk3 (hd _ _ (by decide) (by decide) (by decide)) (by assumption) | exact zz_uf (by assumption) (by assumption) | exact zz_lk3 (zz_xi (by assumption) (by assumption)) (zz_lk1 (by assumption) (by assumption)) | exact zz_lk3 (hd _ _ (by decide) (by decide) (by decide)) (zz_lk3 (hd _ _ (by decide) (by decide) (by decide)) (by assumption)) | (simp only [zz_up]; simp_all; done)) rfl in_X5 0 rfl q552 (fun _ h => h) (by first | rfl | assumption) dX5_sorted_20 ?_
  first | refine zz_aload_n C dX5_sorted_23 rfl ?_ | refine zz_aload_nN C dX5_sorted_23 rfl ?_
  refine zz_get C rfl (by first | assumption | exact zz_us | exact zz_lk1 (by assumption) (by assumption) | exact zz_lk3 (hd _ _ (by decide) (by decide) (by decide)) (by assumption) | exact zz_uf (by assumption) (by assumption) | exact zz_lk3 (zz_xi (by assumption) (by assumption)) (zz_lk1 (by assumption) (by assumption)) | exact zz_lk3 (hd _ _ (by decide) (by decide) (by decide)) (zz_lk3 (hd _ _ (by decide) (by decide) (by decide)) (by assumption)) | (simp only [zz_up]; simp_all; done)) rfl in_X5 1 rfl q553 (fun _ h => h) (by first | rfl | assumption) dX5_sorted_24 ?_
  first | refine zz_aload_n C dX5_sorted_27 rfl ?_ | refine zz_aload_nN C dX5_sorted_27 rfl ?_
  refine zz_get C rfl (by first | assumption | exact zz_us | exact zz_lk1 (by assumption) (by assumption) | exact zz_lk3 (hd _ _ (by decide) (by decide) (by decide)) (by assumption) | exact zz_uf (by assumption) (by assumption) | exact zz_lk3 (zz_xi (by assumption) (by assumption)) (zz_lk1 (by assumption) (by assumption)) | exact zz_lk3 (hd _ _ (by decide) (by decide) (by decide)) (zz_lk3 (hd _ _ (by decide) (by decide) (by decide)) (by assumption)) | (simp only [zz_up]; simp_all; done)) rfl in_X5 2 rfl q554 (fun _ h => h) (by first | rfl | assumption) dX5_sorted_28 ?_
  refine zz_mmin C rfl q681 dX5_sorted_31 rfl rfl rfl (by show (_ : Nat) ≤ 1; omega) (by show (_ : Nat) ≤ 3; omega) ?_
  refine zz_mmin C rfl q681 dX5_sorted_34 rfl rfl rfl (by show (_ : Nat) ≤ 1; omega) (by show (_ : Nat) ≤ 3; omega) ?_
  rw [so_2]
  refine zz_istore_n C dX5_sorted_37 (by decide) ?_
  refine zz_new (ci := 4) (fs := [.int 0, .int 0, .int 0]) (Cn := RX5) (T := TX5) (N := 3) C rfl rfl in_X5 tyX5 tyX5_ok q641 q544 q109 (by intro j hj; match j, hj with | 0, _ => rfl | 1, _ => rfl | 2, _ => rfl) rfl rfl dX5_sorted_38 (fun o38 n38 b38 => ?_)
  refine zz_dup C dX5_sorted_41 rfl ?_
  refine zz_iload_n C dX5_sorted_42 rfl ?_
  first | refine zz_aload_n C dX5_sorted_43 rfl ?_ | refine zz_aload_nN C dX5_sorted_43 rfl ?_
  refine zz_get C rfl (by first | assumption | exact zz_us | exact zz_lk1 (by assumption) (by assumption) | exact zz_lk3 (hd _ _ (by decide) (by decide) (by decide)) (by assumption) | exact zz_uf (by assumption) (by assumption) | exact zz_lk3 (zz_xi (by assumption) (by assumption)) (zz_lk1 (by assumption) (by assumption)) | exact zz_lk3 (hd _ _ (by decide) (by decide) (by decide)) (zz_lk3 (hd _ _ (by decide) (by decide) (by decide)) (by assumption)) | (simp only [zz_up]; simp_all; done)) rfl in_X5 0 rfl q552 (fun _ h => h) (by first | rfl | assumption) dX5_sorted_44 ?_
  first | refine zz_aload_n C dX5_sorted_47 rfl ?_ | refine zz_aload_nN C dX5_sorted_47 rfl ?_
  refine zz_get C rfl (by first | assumption | exact zz_us | exact zz_lk1 (by assumption) (by assumption) | exact zz_lk3 (hd _ _ (by decide) (by decide) (by decide)) (by assumption) | exact zz_uf (by assumption) (by assumption) | exact zz_lk3 (zz_xi (by assumption) (by assumption)) (zz_lk1 (by assumption) (by assumption)) | exact zz_lk3 (hd _ _ (by decide) (by decide) (by decide)) (zz_lk3 (hd _ _ (by decide) (by decide) (by decide)) (by assumption)) | (simp only [zz_up]; simp_all; done)) rfl in_X5 1 rfl q553 (fun _ h => h) (by first | rfl | assumption) dX5_sorted_48 ?_
  refine zz_iadd C dX5_sorted_51 ?_
  first | refine zz_aload_n C dX5_sorted_52 rfl ?_ | refine zz_aload_nN C dX5_sorted_52 rfl ?_
  refine zz_get C rfl (by first | assumption | exact zz_us | exact zz_lk1 (by assumption) (by assumption) | exact zz_lk3 (hd _ _ (by decide) (by decide) (by decide)) (by assumption) | exact zz_uf (by assumption) (by assumption) | exact zz_lk3 (zz_xi (by assumption) (by assumption)) (zz_lk1 (by assumption) (by assumption)) | exact zz_lk3 (hd _ _ (by decide) (by decide) (by decide)) (zz_lk3 (hd _ _ (by decide) (by decide) (by decide)) (by assumption)) | (simp only [zz_up]; simp_all; done)) rfl in_X5 2 rfl q554 (fun _ h => h) (by first | rfl | assumption) dX5_sorted_53 ?_
  refine zz_iadd C dX5_sorted_56 ?_
  refine zz_iload_n C dX5_sorted_57 rfl ?_
  refine zz_isub C dX5_sorted_58 ?_
  refine zz_iload_n C dX5_sorted_59 rfl ?_
  refine zz_isub C dX5_sorted_60 ?_
  refine zz_iload_n C dX5_sorted_61 rfl ?_
  refine zz_callI C zy_X5_init (ct_X5_init zz_us) rfl q642 rfl rfl rfl rfl rfl dX5_sorted_62 ⟨Nat.le_of_ble_eq_true rfl, Nat.le_of_ble_eq_true rfl⟩ (fun v hz hp => ?_)
  obtain ⟨rfl, ez⟩ := hp
  obtain rfl := ez.symm
  refine zz_aret C (Or.inl ⟨_, rfl⟩) (Or.inr ⟨_, rfl⟩) dX5_sorted_65 rfl rfl ?_
  exact ⟨o38, rfl, n38, b38, by rw [zz_upup]; rfl⟩

theorem ct_X5_weight {l : Launch} {D : va_G} {b0 : Nat} {h : zz_H} {z0 : Nat} {x0 y0 w0 : Int32} (hZ : h z0 = some (sz_F x0 y0 w0)) {v1 : Int32}  : zz_Ct l D b0 yX5_weight cX5_weight 2 (some .int) 0 0 0 0 [.ref z0, .int v1] h (fun v h' => v = some (.int (x0 * y0 * w0 * v1 / 10000)) ∧ h' = h) := by
  refine zz_Ct.of zy_X5_weight.1 rfl ?_
  intro p e s m below meth c C
  first | refine zz_aload_n C dX5_weight_0 rfl ?_ | refine zz_aload_nN C dX5_weight_0 rfl ?_
  refine zz_get C rfl (by first | assumption | exact zz_us | exact zz_lk1 (by assumption) (by assumption) | exact zz_lk3 (hd _ _ (by decide) (by decide) (by decide)) (by assumption) | exact zz_uf (by assumption) (by assumption) | exact zz_lk3 (zz_xi (by assumption) (by assumption)) (zz_lk1 (by assumption) (by assumption)) | exact zz_lk3 (hd _ _ (by decide) (by decide) (by decide)) (zz_lk3 (hd _ _ (by decide) (by decide) (by decide)) (by assumption)) | (simp only [zz_up]; simp_all; done)) rfl in_X5 0 rfl q552 (fun _ h => h) (by first | rfl | assumption) dX5_weight_1 ?_
  first | refine zz_aload_n C dX5_weight_4 rfl ?_ | refine zz_aload_nN C dX5_weight_4 rfl ?_
  refine zz_get C rfl (by first | assumption | exact zz_us | exact zz_lk1 (by assumption) (by assumption) | exact zz_lk3 (hd _ _ (by decide) (by decide) (by decide)) (by assumption) | exact zz_uf (by assumption) (by assumption) | exact zz_lk3 (zz_xi (by assumption) (by assumption)) (zz_lk1 (by assumption) (by assumption)) | exact zz_lk3 (hd _ _ (by decide) (by decide) (by decide)) (zz_lk3 (hd _ _ (by decide) (by decide) (by decide)) (by assumption)) | (simp only [zz_up]; simp_all; done)) rfl in_X5 1 rfl q553 (fun _ h => h) (by first | rfl | assumption) dX5_weight_5 ?_
  refine zz_imul C dX5_weight_8 ?_
  first | refine zz_aload_n C dX5_weight_9 rfl ?_ | refine zz_aload_nN C dX5_weight_9 rfl ?_
  refine zz_get C rfl (by first | assumption | exact zz_us | exact zz_lk1 (by assumption) (by assumption) | exact zz_lk3 (hd _ _ (by decide) (by decide) (by decide)) (by assumption) | exact zz_uf (by assumption) (by assumption) | exact zz_lk3 (zz_xi (by assumption) (by assumption)) (zz_lk1 (by assumption) (by assumption)) | exact zz_lk3 (hd _ _ (by decide) (by decide) (by decide)) (zz_lk3 (hd _ _ (by decide) (by decide) (by decide)) (by assumption)) | (simp only [zz_up]; simp_all; done)) rfl in_X5 2 rfl q554 (fun _ h => h) (by first | rfl | assumption) dX5_weight_10 ?_
  refine zz_imul C dX5_weight_13 ?_
  refine zz_iload_n C dX5_weight_14 rfl ?_
  refine zz_imul C dX5_weight_15 ?_
  refine zz_sipush (v := 10000) C dX5_weight_16 (by decide) ?_
  refine zz_idiv C dX5_weight_19 (by decide) ?_
  refine zz_iret C dX5_weight_20 rfl rfl ?_
  exact ⟨rfl, rfl⟩

theorem ct_X5_over {l : Launch} {D : va_G} {b0 : Nat} {h : zz_H} {z0 : Nat} {x0 y0 w0 : Int32} (hZ : h z0 = some (sz_F x0 y0 w0)) {z1 : Nat} {a : Nat → Int32} {o : Nat} (hZ1 : h z1 = some (os_F a o))  : zz_Ct l D b0 yX5_over cX5_over 7 (some .int) 4 85 1 3 [.ref z0, .ref z1, .int (a 3)] h (fun v h' => v = some (.int (qa_exc a o x0 y0 w0)) ∧ h' = h) := by
  refine zz_Ct.of zy_X5_over.1 rfl ?_
  intro p e s m below meth c C
  first | refine zz_aload_n C dX5_over_0 rfl ?_ | refine zz_aload_nN C dX5_over_0 rfl ?_
  refine zz_callV C zy_X5_sorted (ct_X5_sorted hZ) rfl q715 (by first | assumption | exact zz_us | exact zz_lk1 (by assumption) (by assumption) | exact zz_lk3 (hd _ _ (by decide) (by decide) (by decide)) (by assumption) | exact zz_uf (by assumption) (by assumption) | exact zz_lk3 (zz_xi (by assumption) (by assumption)) (zz_lk1 (by assumption) (by assumption)) | exact zz_lk3 (hd _ _ (by decide) (by decide) (by decide)) (zz_lk3 (hd _ _ (by decide) (by decide) (by decide)) (by assumption)) | (simp only [zz_up]; simp_all; done)) rfl rfl rfl rfl rfl rfl dX5_over_1 ⟨Nat.le_of_ble_eq_true rfl, Nat.le_of_ble_eq_true rfl⟩ (fun v hz hp => ?_)
  obtain ⟨oz, rfl, nz, bz, ez⟩ := hp
  obtain rfl := ez.symm
  refine zz_astore_n C dX5_over_4 (by decide) ?_
  refine zz_iconst (v := 0) C dX5_over_5 (by decide) ?_
  refine zz_istore C dX5_over_6 (by decide) ?_
  refine zz_iconst (v := 0) C dX5_over_8 (by decide) ?_
  refine zz_istore C dX5_over_9 (by decide) ?_
  have L11 : ∀ (n : Nat) (i : Nat), i ≤ 3 → 4 ≤ i + n → qa_fit a o x0 y0 w0 i = true → zz_V D b0 7 p l e ({ frames := 4, cells := 1, slots := 3, locals := 85 } : Jvm.Room) s m ([.ref z0, .ref z1, .int (a 3)] : List Value).toArray below meth c (MQ below (zz_Q D b0 (fun v h' => v = some (.int (qa_exc a o x0 y0 w0)) ∧ h' = h)) ([.ref z0, .ref z1, .int (a 3)] : List Value).toArray s 1 3 (fun q => b0 ≤ q)) 1 3 (zz_up h oz (sz_F (qa_s0 x0 y0 w0) (qa_s1 x0 y0 w0) (qa_s2 x0 y0 w0))) [(0, .ref z0), (1, .ref z1), (2, .int (a 3)), (3, .ref oz), (4, .int (qa_sum (qa_more a o x0 y0 w0) i)), (5, .int (nI i))] 11 [] := by
    intro n
    induction n with
    | zero =>
      intro i h1 h2 hf
      exact absurd h2 (by omega)
    | succ n ih =>
      intro i h1 h2 hf
      refine zz_iload C dX5_over_11 rfl ?_
      refine zz_iconst (v := 3) C dX5_over_13 (by decide) ?_
      refine zz_icmp_ge (tgt := 58) C dX5_over_14 (by decide) (fun c14 => ?_) (fun c14 => ?_)
      · have hi2 : 3 ≤ i := (nI_leI (a := 3) (by omega) (by omega)).mp c14
        obtain rfl : i = 3 := by omega
        refine zz_iload C dX5_over_58 rfl ?_
        refine zz_wk (h' := h) (fun x e hx => zz_uf hx nz) ?_
        refine zz_iret C dX5_over_60 rfl rfl ?_
        exact ⟨by unfold qa_exc; rw [if_pos hf], rfl⟩
      · have hi2 : i < 3 := Nat.not_le.mp (fun q => c14 (nI_le (a := 3) q (by omega)))
        first | refine zz_aload_n C dX5_over_17 rfl ?_ | refine zz_aload_nN C dX5_over_17 rfl ?_
        refine zz_iload C dX5_over_18 rfl ?_
        refine zz_callV C zy_X5_of (ct_X5_of zz_us) rfl q716 (by first | assumption | exact zz_us | exact zz_lk1 (by assumption) (by assumption) | exact zz_lk3 (hd _ _ (by decide) (by decide) (by decide)) (by assumption) | exact zz_uf (by assumption) (by assumption) | exact zz_lk3 (zz_xi (by assumption) (by assumption)) (zz_lk1 (by assumption) (by assumption)) | exact zz_lk3 (hd _ _ (by decide) (by decide) (by decide)) (zz_lk3 (hd _ _ (by decide) (by decide) (by decide)) (by assumption)) | (simp only [zz_up]; simp_all; done)) rfl rfl rfl rfl rfl rfl dX5_over_20 ⟨Nat.le_of_ble_eq_true rfl, Nat.le_of_ble_eq_true rfl⟩ (fun v hz hp => ?_)
        obtain ⟨rfl, ez⟩ := hp
        obtain rfl := ez.symm
        rw [sz_o_s x0 y0 w0 i hi2]
        first | refine zz_aload_n C dX5_over_23 rfl ?_ | refine zz_aload_nN C dX5_over_23 rfl ?_
        refine zz_iload C dX5_over_24 rfl ?_
        refine zz_callV C zy_X5_of (ct_X5_of (zz_uf hZ1 nz)) rfl q716 (by first | assumption | exact zz_us | exact zz_lk1 (by assumption) (by assumption) | exact zz_lk3 (hd _ _ (by decide) (by decide) (by decide)) (by assumption) | exact zz_uf (by assumption) (by assumption) | exact zz_lk3 (zz_xi (by assumption) (by assumption)) (zz_lk1 (by assumption) (by assumption)) | exact zz_lk3 (hd _ _ (by decide) (by decide) (by decide)) (zz_lk3 (hd _ _ (by decide) (by decide) (by decide)) (by assumption)) | (simp only [zz_up]; simp_all; done)) rfl rfl rfl rfl rfl rfl dX5_over_26 ⟨Nat.le_of_ble_eq_true rfl, Nat.le_of_ble_eq_true rfl⟩ (fun v hz hp => ?_)
        obtain ⟨rfl, ez⟩ := hp
        obtain rfl := ez.symm
        rw [show sz_o (a (252 + 6 * o)) (a (252 + 6 * o + 1)) (a (252 + 6 * o + 2)) (nI i) = a (252 + 6 * o + i) from sz_o_f (fun k => a (252 + 6 * o + k)) i hi2]
        refine zz_isub C dX5_over_29 ?_
        refine zz_istore C dX5_over_30 (by decide) ?_
        refine zz_iload C dX5_over_32 rfl ?_
        refine zz_iconst (v := 0) C dX5_over_34 (by decide) ?_
        refine zz_iload_n C dX5_over_35 rfl ?_
        refine zz_callSN (host := "QuarryOrders") C zy_X0_isIn (ct_X0_isIn) rfl (by decide +kernel) rfl rfl rfl rfl rfl dX5_over_36 ⟨Nat.le_of_ble_eq_true rfl, Nat.le_of_ble_eq_true rfl⟩ (fun v hz hp => ?_)
        obtain ⟨rfl, ez⟩ := hp
        obtain rfl := ez.symm
        first | refine zz_ifb_ne (tgt := 45) C dX5_over_39 (by decide) (fun c39 => ?_) (fun c39 => ?_) | refine zz_if_ne (tgt := 45) C dX5_over_39 (by decide) (fun c39 => ?_) (fun c39 => ?_)
        · refine zz_iload C dX5_over_45 rfl ?_
          refine zz_iload C dX5_over_47 rfl ?_
          refine zz_iadd C dX5_over_49 ?_
          refine zz_istore C dX5_over_50 (by decide) ?_
          refine zz_iinc C dX5_over_52 rfl (by first | exact nI_1 _ | exact (rfl : _ + Int32.ofInt 1 = _ + 1)) (by decide) ?_
          refine zz_goto (tgt := 11) C dX5_over_55 (by decide) ?_
          exact zz_loc2 (ih (i + 1) (by omega) (by omega) (by show (qa_fit a o x0 y0 w0 i && _) = true; rw [hf]; exact c39)) ⟨rfl, rfl, rfl, rfl, rfl, rfl, trivial⟩
        · refine zz_bipush (v := (-6)) C dX5_over_42 (by decide) ?_
          refine zz_wk (h' := h) (fun x e hx => zz_uf hx nz) ?_
          refine zz_iret C dX5_over_44 rfl rfl ?_
          exact ⟨by rw [qa_exc_f hi2 c39], rfl⟩
  exact zz_loc2 (L11 4 0 (by omega) (by omega) rfl) ⟨rfl, rfl, rfl, rfl, rfl, rfl, trivial⟩

theorem ct_X4_init_2 {l : Launch} {D : va_G} {b0 : Nat} {h : zz_H} {o0 s0 : Nat} (hO : h o0 = some (.inr (3, [.null, .int 0, .int 0, .int 0])))  : zz_Ct l D b0 yX4_init_2 cX4_init_2 2 (none) 1 20 0 0 [.ref o0, .ref s0] h (fun v h' => v = none ∧ h' = zz_up h o0 (or_G s0 0 (-6) (-6))) := by
  refine zz_Ct.of zy_X4_init_2.1 rfl ?_
  intro p e s m below meth c C
  first | refine zz_aload_n C dX4_init_2_0 rfl ?_ | refine zz_aload_nN C dX4_init_2_0 rfl ?_
  refine zz_objInit C rfl q505 q123 q124 dX4_init_2_1 rfl rfl rfl ?_
  first | refine zz_aload_n C dX4_init_2_4 rfl ?_ | refine zz_aload_nN C dX4_init_2_4 rfl ?_
  refine zz_bipush (v := (-6)) C dX4_init_2_5 (by decide) ?_
  refine zz_put C rfl (by first | assumption | exact zz_us | exact zz_lk1 (by assumption) (by assumption) | exact zz_lk3 (hd _ _ (by decide) (by decide) (by decide)) (by assumption) | exact zz_uf (by assumption) (by assumption) | exact zz_lk3 (zz_xi (by assumption) (by assumption)) (zz_lk1 (by assumption) (by assumption)) | exact zz_lk3 (hd _ _ (by decide) (by decide) (by decide)) (zz_lk3 (hd _ _ (by decide) (by decide) (by decide)) (by assumption)) | (simp only [zz_up]; simp_all; done)) rfl in_X4 tyX4 tyX4_ok nmX4 2 rfl q512 (fun _ h => h) rfl (tyX4_ok 2 (by decide)) (by first | rfl | exact zz_narZ (by first | exact zz_b01 _ | assumption | decide)) rfl (Nat.le_of_ble_eq_true rfl) dX4_init_2_7 ?_
  first | refine zz_aload_n C dX4_init_2_10 rfl ?_ | refine zz_aload_nN C dX4_init_2_10 rfl ?_
  refine zz_bipush (v := (-6)) C dX4_init_2_11 (by decide) ?_
  refine zz_put C rfl (by first | assumption | exact zz_us | exact zz_lk1 (by assumption) (by assumption) | exact zz_lk3 (hd _ _ (by decide) (by decide) (by decide)) (by assumption) | exact zz_uf (by assumption) (by assumption) | exact zz_lk3 (zz_xi (by assumption) (by assumption)) (zz_lk1 (by assumption) (by assumption)) | exact zz_lk3 (hd _ _ (by decide) (by decide) (by decide)) (zz_lk3 (hd _ _ (by decide) (by decide) (by decide)) (by assumption)) | (simp only [zz_up]; simp_all; done)) rfl in_X4 tyX4 tyX4_ok nmX4 3 rfl q514 (fun _ h => h) rfl (tyX4_ok 3 (by decide)) (by first | rfl | exact zz_narZ (by first | exact zz_b01 _ | assumption | decide)) rfl (Nat.le_of_ble_eq_true rfl) dX4_init_2_13 ?_
  first | refine zz_aload_n C dX4_init_2_16 rfl ?_ | refine zz_aload_nN C dX4_init_2_16 rfl ?_
  first | refine zz_aload_n C dX4_init_2_17 rfl ?_ | refine zz_aload_nN C dX4_init_2_17 rfl ?_
  refine zz_putF C rfl (by first | assumption | exact zz_us | exact zz_lk1 (by assumption) (by assumption) | exact zz_lk3 (hd _ _ (by decide) (by decide) (by decide)) (by assumption) | exact zz_uf (by assumption) (by assumption) | exact zz_lk3 (zz_xi (by assumption) (by assumption)) (zz_lk1 (by assumption) (by assumption)) | exact zz_lk3 (hd _ _ (by decide) (by decide) (by decide)) (zz_lk3 (hd _ _ (by decide) (by decide) (by decide)) (by assumption)) | (simp only [zz_up]; simp_all; done)) rfl in_X4 tyX4 tyX4_ok nmX4 0 rfl q506 (fun _ h => h) rfl rfl rfl (tyX4_ok 0 (by decide)) (by first | rfl | exact zz_narZ (by first | exact zz_b01 _ | assumption | decide)) rfl (Nat.le_of_ble_eq_true rfl) dX4_init_2_18 ?_
  refine zz_vret C dX4_init_2_21 rfl rfl ?_
  exact ⟨rfl, by rw [zz_upup, zz_upup]; rfl⟩

theorem ct_X4_init {l : Launch} {D : va_G} {b0 : Nat} {h : zz_H} {o0 o1 s0 : Nat} {t0 v0 i0 : Int32} (hO : h o0 = some (.inr (3, [.null, .int 0, .int 0, .int 0]))) (hX : h o1 = some (or_G s0 t0 v0 i0)) (hne : o1 ≠ o0)  : zz_Ct l D b0 yX4_init cX4_init 2 (none) 2 41 0 0 [.ref o0, .ref o1] h (fun v h' => v = none ∧ h' = zz_up h o0 (or_G s0 t0 v0 i0)) := by
  refine zz_Ct.of zy_X4_init.1 rfl ?_
  intro p e s m below meth c C
  first | refine zz_aload_n C dX4_init_0 rfl ?_ | refine zz_aload_nN C dX4_init_0 rfl ?_
  first | refine zz_aload_n C dX4_init_1 rfl ?_ | refine zz_aload_nN C dX4_init_1 rfl ?_
  refine zz_get C rfl (by first | exact hX | exact zz_lk3 hne hX | exact zz_lk3 hne (zz_lk3 hne hX) | exact zz_lk3 hne (zz_lk3 hne (zz_lk3 hne hX)) | exact zz_lk3 hne (zz_lk3 hne (zz_lk3 hne (zz_lk3 hne hX)))) rfl in_X4 0 rfl q506 (fun _ h => h) (by first | rfl | assumption) dX4_init_2 ?_
  refine zz_callI C zy_X4_init_2 (ct_X4_init_2 hO) rfl q502 rfl rfl rfl rfl rfl dX4_init_5 ⟨Nat.le_of_ble_eq_true rfl, Nat.le_of_ble_eq_true rfl⟩ (fun v hz hp => ?_)
  obtain ⟨rfl, ez⟩ := hp
  obtain rfl := ez.symm
  first | refine zz_aload_n C dX4_init_8 rfl ?_ | refine zz_aload_nN C dX4_init_8 rfl ?_
  first | refine zz_aload_n C dX4_init_9 rfl ?_ | refine zz_aload_nN C dX4_init_9 rfl ?_
  refine zz_get C rfl (by first | exact hX | exact zz_lk3 hne hX | exact zz_lk3 hne (zz_lk3 hne hX) | exact zz_lk3 hne (zz_lk3 hne (zz_lk3 hne hX)) | exact zz_lk3 hne (zz_lk3 hne (zz_lk3 hne (zz_lk3 hne hX)))) rfl in_X4 1 rfl q509 (fun _ h => h) (by first | rfl | assumption) dX4_init_10 ?_
  refine zz_put C rfl (by first | assumption | exact zz_us | exact zz_lk1 (by assumption) (by assumption) | exact zz_lk3 (hd _ _ (by decide) (by decide) (by decide)) (by assumption) | exact zz_uf (by assumption) (by assumption) | exact zz_lk3 (zz_xi (by assumption) (by assumption)) (zz_lk1 (by assumption) (by assumption)) | exact zz_lk3 (hd _ _ (by decide) (by decide) (by decide)) (zz_lk3 (hd _ _ (by decide) (by decide) (by decide)) (by assumption)) | (simp only [zz_up]; simp_all; done)) rfl in_X4 tyX4 tyX4_ok nmX4 1 rfl q509 (fun _ h => h) rfl (tyX4_ok 1 (by decide)) (by first | rfl | exact zz_narZ (by first | exact zz_b01 _ | assumption | decide)) rfl (Nat.le_of_ble_eq_true rfl) dX4_init_13 ?_
  first | refine zz_aload_n C dX4_init_16 rfl ?_ | refine zz_aload_nN C dX4_init_16 rfl ?_
  first | refine zz_aload_n C dX4_init_17 rfl ?_ | refine zz_aload_nN C dX4_init_17 rfl ?_
  refine zz_get C rfl (by first | exact hX | exact zz_lk3 hne hX | exact zz_lk3 hne (zz_lk3 hne hX) | exact zz_lk3 hne (zz_lk3 hne (zz_lk3 hne hX)) | exact zz_lk3 hne (zz_lk3 hne (zz_lk3 hne (zz_lk3 hne hX)))) rfl in_X4 2 rfl q512 (fun _ h => h) (by first | rfl | assumption) dX4_init_18 ?_
  refine zz_put C rfl (by first | assumption | exact zz_us | exact zz_lk1 (by assumption) (by assumption) | exact zz_lk3 (hd _ _ (by decide) (by decide) (by decide)) (by assumption) | exact zz_uf (by assumption) (by assumption) | exact zz_lk3 (zz_xi (by assumption) (by assumption)) (zz_lk1 (by assumption) (by assumption)) | exact zz_lk3 (hd _ _ (by decide) (by decide) (by decide)) (zz_lk3 (hd _ _ (by decide) (by decide) (by decide)) (by assumption)) | (simp only [zz_up]; simp_all; done)) rfl in_X4 tyX4 tyX4_ok nmX4 2 rfl q512 (fun _ h => h) rfl (tyX4_ok 2 (by decide)) (by first | rfl | exact zz_narZ (by first | exact zz_b01 _ | assumption | decide)) rfl (Nat.le_of_ble_eq_true rfl) dX4_init_21 ?_
  first | refine zz_aload_n C dX4_init_24 rfl ?_ | refine zz_aload_nN C dX4_init_24 rfl ?_
  first | refine zz_aload_n C dX4_init_25 rfl ?_ | refine zz_aload_nN C dX4_init_25 rfl ?_
  refine zz_get C rfl (by first | exact hX | exact zz_lk3 hne hX | exact zz_lk3 hne (zz_lk3 hne hX) | exact zz_lk3 hne (zz_lk3 hne (zz_lk3 hne hX)) | exact zz_lk3 hne (zz_lk3 hne (zz_lk3 hne (zz_lk3 hne hX)))) rfl in_X4 3 rfl q514 (fun _ h => h) (by first | rfl | assumption) dX4_init_26 ?_
  refine zz_put C rfl (by first | assumption | exact zz_us | exact zz_lk1 (by assumption) (by assumption) | exact zz_lk3 (hd _ _ (by decide) (by decide) (by decide)) (by assumption) | exact zz_uf (by assumption) (by assumption) | exact zz_lk3 (zz_xi (by assumption) (by assumption)) (zz_lk1 (by assumption) (by assumption)) | exact zz_lk3 (hd _ _ (by decide) (by decide) (by decide)) (zz_lk3 (hd _ _ (by decide) (by decide) (by decide)) (by assumption)) | (simp only [zz_up]; simp_all; done)) rfl in_X4 tyX4 tyX4_ok nmX4 3 rfl q514 (fun _ h => h) rfl (tyX4_ok 3 (by decide)) (by first | rfl | exact zz_narZ (by first | exact zz_b01 _ | assumption | decide)) rfl (Nat.le_of_ble_eq_true rfl) dX4_init_29 ?_
  refine zz_vret C dX4_init_32 rfl rfl ?_
  exact ⟨rfl, by rw [zz_upup, zz_upup, zz_upup]; rfl⟩

theorem ct_X3_init_2 {l : Launch} {D : va_G} {b0 : Nat} {h : zz_H} {B s0 : Nat} {v1 v3 v4 v5 : Int32} (hB : h B = some (.inr (2, [.int 0, .null, .int 0, .int 0, .int 0, .int 0, .int 0, .int 0, .int 0])))  : zz_Ct l D b0 yX3_init_2 cX3_init_2 6 (none) 1 20 0 0 [.ref B, .int v1, .ref s0, .int v3, .int v4, .int v5] h (fun v h' => v = none ∧ h' = zz_up h B (bl_G v1 s0 v3 v4 0 v5 (-6) (-6) 0)) := by
  refine zz_Ct.of zy_X3_init_2.1 rfl ?_
  intro p e s m below meth c C
  first | refine zz_aload_n C dX3_init_2_0 rfl ?_ | refine zz_aload_nN C dX3_init_2_0 rfl ?_
  refine zz_objInit C rfl q391 q123 q124 dX3_init_2_1 rfl rfl rfl ?_
  first | refine zz_aload_n C dX3_init_2_4 rfl ?_ | refine zz_aload_nN C dX3_init_2_4 rfl ?_
  refine zz_bipush (v := (-6)) C dX3_init_2_5 (by decide) ?_
  refine zz_put C rfl (by first | assumption | exact zz_us | exact zz_lk1 (by assumption) (by assumption) | exact zz_lk3 (hd _ _ (by decide) (by decide) (by decide)) (by assumption) | exact zz_uf (by assumption) (by assumption) | exact zz_lk3 (zz_xi (by assumption) (by assumption)) (zz_lk1 (by assumption) (by assumption)) | exact zz_lk3 (hd _ _ (by decide) (by decide) (by decide)) (zz_lk3 (hd _ _ (by decide) (by decide) (by decide)) (by assumption)) | (simp only [zz_up]; simp_all; done)) rfl in_X3 tyX3 tyX3_ok nmX3 6 rfl q409 (fun _ h => h) rfl (tyX3_ok 6 (by decide)) (by first | rfl | exact zz_narZ (by first | exact zz_b01 _ | assumption | decide)) rfl (Nat.le_of_ble_eq_true rfl) dX3_init_2_7 ?_
  first | refine zz_aload_n C dX3_init_2_10 rfl ?_ | refine zz_aload_nN C dX3_init_2_10 rfl ?_
  refine zz_bipush (v := (-6)) C dX3_init_2_11 (by decide) ?_
  refine zz_put C rfl (by first | assumption | exact zz_us | exact zz_lk1 (by assumption) (by assumption) | exact zz_lk3 (hd _ _ (by decide) (by decide) (by decide)) (by assumption) | exact zz_uf (by assumption) (by assumption) | exact zz_lk3 (zz_xi (by assumption) (by assumption)) (zz_lk1 (by assumption) (by assumption)) | exact zz_lk3 (hd _ _ (by decide) (by decide) (by decide)) (zz_lk3 (hd _ _ (by decide) (by decide) (by decide)) (by assumption)) | (simp only [zz_up]; simp_all; done)) rfl in_X3 tyX3 tyX3_ok nmX3 7 rfl q412 (fun _ h => h) rfl (tyX3_ok 7 (by decide)) (by first | rfl | exact zz_narZ (by first | exact zz_b01 _ | assumption | decide)) rfl (Nat.le_of_ble_eq_true rfl) dX3_init_2_13 ?_
  first | refine zz_aload_n C dX3_init_2_16 rfl ?_ | refine zz_aload_nN C dX3_init_2_16 rfl ?_
  refine zz_iload_n C dX3_init_2_17 rfl ?_
  refine zz_putF C rfl (by first | assumption | exact zz_us | exact zz_lk1 (by assumption) (by assumption) | exact zz_lk3 (hd _ _ (by decide) (by decide) (by decide)) (by assumption) | exact zz_uf (by assumption) (by assumption) | exact zz_lk3 (zz_xi (by assumption) (by assumption)) (zz_lk1 (by assumption) (by assumption)) | exact zz_lk3 (hd _ _ (by decide) (by decide) (by decide)) (zz_lk3 (hd _ _ (by decide) (by decide) (by decide)) (by assumption)) | (simp only [zz_up]; simp_all; done)) rfl in_X3 tyX3 tyX3_ok nmX3 0 rfl q392 (fun _ h => h) rfl rfl rfl (tyX3_ok 0 (by decide)) (by first | rfl | exact zz_narZ (by first | exact zz_b01 _ | assumption | decide)) rfl (Nat.le_of_ble_eq_true rfl) dX3_init_2_18 ?_
  first | refine zz_aload_n C dX3_init_2_21 rfl ?_ | refine zz_aload_nN C dX3_init_2_21 rfl ?_
  first | refine zz_aload_n C dX3_init_2_22 rfl ?_ | refine zz_aload_nN C dX3_init_2_22 rfl ?_
  refine zz_putF C rfl (by first | assumption | exact zz_us | exact zz_lk1 (by assumption) (by assumption) | exact zz_lk3 (hd _ _ (by decide) (by decide) (by decide)) (by assumption) | exact zz_uf (by assumption) (by assumption) | exact zz_lk3 (zz_xi (by assumption) (by assumption)) (zz_lk1 (by assumption) (by assumption)) | exact zz_lk3 (hd _ _ (by decide) (by decide) (by decide)) (zz_lk3 (hd _ _ (by decide) (by decide) (by decide)) (by assumption)) | (simp only [zz_up]; simp_all; done)) rfl in_X3 tyX3 tyX3_ok nmX3 1 rfl q395 (fun _ h => h) rfl rfl rfl (tyX3_ok 1 (by decide)) (by first | rfl | exact zz_narZ (by first | exact zz_b01 _ | assumption | decide)) rfl (Nat.le_of_ble_eq_true rfl) dX3_init_2_23 ?_
  first | refine zz_aload_n C dX3_init_2_26 rfl ?_ | refine zz_aload_nN C dX3_init_2_26 rfl ?_
  refine zz_iload_n C dX3_init_2_27 rfl ?_
  refine zz_putF C rfl (by first | assumption | exact zz_us | exact zz_lk1 (by assumption) (by assumption) | exact zz_lk3 (hd _ _ (by decide) (by decide) (by decide)) (by assumption) | exact zz_uf (by assumption) (by assumption) | exact zz_lk3 (zz_xi (by assumption) (by assumption)) (zz_lk1 (by assumption) (by assumption)) | exact zz_lk3 (hd _ _ (by decide) (by decide) (by decide)) (zz_lk3 (hd _ _ (by decide) (by decide) (by decide)) (by assumption)) | (simp only [zz_up]; simp_all; done)) rfl in_X3 tyX3 tyX3_ok nmX3 2 rfl q398 (fun _ h => h) rfl rfl rfl (tyX3_ok 2 (by decide)) (by first | rfl | exact zz_narZ (by first | exact zz_b01 _ | assumption | decide)) rfl (Nat.le_of_ble_eq_true rfl) dX3_init_2_28 ?_
  first | refine zz_aload_n C dX3_init_2_31 rfl ?_ | refine zz_aload_nN C dX3_init_2_31 rfl ?_
  refine zz_iload C dX3_init_2_32 rfl ?_
  refine zz_putF C rfl (by first | assumption | exact zz_us | exact zz_lk1 (by assumption) (by assumption) | exact zz_lk3 (hd _ _ (by decide) (by decide) (by decide)) (by assumption) | exact zz_uf (by assumption) (by assumption) | exact zz_lk3 (zz_xi (by assumption) (by assumption)) (zz_lk1 (by assumption) (by assumption)) | exact zz_lk3 (hd _ _ (by decide) (by decide) (by decide)) (zz_lk3 (hd _ _ (by decide) (by decide) (by decide)) (by assumption)) | (simp only [zz_up]; simp_all; done)) rfl in_X3 tyX3 tyX3_ok nmX3 3 rfl q401 (fun _ h => h) rfl rfl rfl (tyX3_ok 3 (by decide)) (by first | rfl | exact zz_narZ (by first | exact zz_b01 _ | assumption | decide)) rfl (Nat.le_of_ble_eq_true rfl) dX3_init_2_34 ?_
  first | refine zz_aload_n C dX3_init_2_37 rfl ?_ | refine zz_aload_nN C dX3_init_2_37 rfl ?_
  refine zz_iload C dX3_init_2_38 rfl ?_
  refine zz_put C rfl (by first | assumption | exact zz_us | exact zz_lk1 (by assumption) (by assumption) | exact zz_lk3 (hd _ _ (by decide) (by decide) (by decide)) (by assumption) | exact zz_uf (by assumption) (by assumption) | exact zz_lk3 (zz_xi (by assumption) (by assumption)) (zz_lk1 (by assumption) (by assumption)) | exact zz_lk3 (hd _ _ (by decide) (by decide) (by decide)) (zz_lk3 (hd _ _ (by decide) (by decide) (by decide)) (by assumption)) | (simp only [zz_up]; simp_all; done)) rfl in_X3 tyX3 tyX3_ok nmX3 5 rfl q406 (fun _ h => h) rfl (tyX3_ok 5 (by decide)) (by first | rfl | exact zz_narZ (by first | exact zz_b01 _ | assumption | decide)) rfl (Nat.le_of_ble_eq_true rfl) dX3_init_2_40 ?_
  refine zz_vret C dX3_init_2_43 rfl rfl ?_
  exact ⟨rfl, by rw [zz_upup, zz_upup, zz_upup, zz_upup, zz_upup, zz_upup]; rfl⟩

theorem ct_X3_init_3 {l : Launch} {D : va_G} {b0 : Nat} {h : zz_H} {B s0 : Nat} {v1 v3 : Int32} (hB : h B = some (.inr (2, [.int 0, .null, .int 0, .int 0, .int 0, .int 0, .int 0, .int 0, .int 0])))  : zz_Ct l D b0 yX3_init_3 cX3_init_3 4 (none) 2 45 0 0 [.ref B, .int v1, .ref s0, .int v3] h (fun v h' => v = none ∧ h' = zz_up h B (bl_G v1 s0 v3 (-6) 0 3 (-6) (-6) 0)) := by
  refine zz_Ct.of zy_X3_init_3.1 rfl ?_
  intro p e s m below meth c C
  first | refine zz_aload_n C dX3_init_3_0 rfl ?_ | refine zz_aload_nN C dX3_init_3_0 rfl ?_
  refine zz_iload_n C dX3_init_3_1 rfl ?_
  first | refine zz_aload_n C dX3_init_3_2 rfl ?_ | refine zz_aload_nN C dX3_init_3_2 rfl ?_
  refine zz_iload_n C dX3_init_3_3 rfl ?_
  refine zz_bipush (v := (-6)) C dX3_init_3_4 (by decide) ?_
  refine zz_iconst (v := 3) C dX3_init_3_6 (by decide) ?_
  refine zz_callI C zy_X3_init_2 (ct_X3_init_2 hB) rfl q388 rfl rfl rfl rfl rfl dX3_init_3_7 ⟨Nat.le_of_ble_eq_true rfl, Nat.le_of_ble_eq_true rfl⟩ (fun v hz hp => ?_)
  obtain ⟨rfl, ez⟩ := hp
  obtain rfl := ez.symm
  refine zz_vret C dX3_init_3_10 rfl rfl ?_
  exact ⟨rfl, rfl⟩

theorem ct_X3_init {l : Launch} {D : va_G} {b0 : Nat} {h : zz_H} {B B1 s0 : Nat} {n0 d0 f0 w0 t0 o0 p0 c0 : Int32} (hc0 : c0 = 0 ∨ c0 = 1) (hB : h B = some (.inr (2, [.int 0, .null, .int 0, .int 0, .int 0, .int 0, .int 0, .int 0, .int 0]))) (hX : h B1 = some (bl_G n0 s0 d0 f0 w0 t0 o0 p0 c0)) (hne : B1 ≠ B)  : zz_Ct l D b0 yX3_init cX3_init 2 (none) 2 45 0 0 [.ref B, .ref B1] h (fun v h' => v = none ∧ h' = zz_up h B (bl_G n0 s0 d0 f0 w0 t0 o0 p0 c0)) := by
  refine zz_Ct.of zy_X3_init.1 rfl ?_
  intro p e s m below meth c C
  first | refine zz_aload_n C dX3_init_0 rfl ?_ | refine zz_aload_nN C dX3_init_0 rfl ?_
  first | refine zz_aload_n C dX3_init_1 rfl ?_ | refine zz_aload_nN C dX3_init_1 rfl ?_
  refine zz_get C rfl (by first | exact hX | exact zz_lk3 hne hX | exact zz_lk3 hne (zz_lk3 hne hX) | exact zz_lk3 hne (zz_lk3 hne (zz_lk3 hne hX)) | exact zz_lk3 hne (zz_lk3 hne (zz_lk3 hne (zz_lk3 hne hX)))) rfl in_X3 0 rfl q392 (fun _ h => h) (by first | rfl | assumption) dX3_init_2 ?_
  first | refine zz_aload_n C dX3_init_5 rfl ?_ | refine zz_aload_nN C dX3_init_5 rfl ?_
  refine zz_get C rfl (by first | exact hX | exact zz_lk3 hne hX | exact zz_lk3 hne (zz_lk3 hne hX) | exact zz_lk3 hne (zz_lk3 hne (zz_lk3 hne hX)) | exact zz_lk3 hne (zz_lk3 hne (zz_lk3 hne (zz_lk3 hne hX)))) rfl in_X3 1 rfl q395 (fun _ h => h) (by first | rfl | assumption) dX3_init_6 ?_
  first | refine zz_aload_n C dX3_init_9 rfl ?_ | refine zz_aload_nN C dX3_init_9 rfl ?_
  refine zz_get C rfl (by first | exact hX | exact zz_lk3 hne hX | exact zz_lk3 hne (zz_lk3 hne hX) | exact zz_lk3 hne (zz_lk3 hne (zz_lk3 hne hX)) | exact zz_lk3 hne (zz_lk3 hne (zz_lk3 hne (zz_lk3 hne hX)))) rfl in_X3 2 rfl q398 (fun _ h => h) (by first | rfl | assumption) dX3_init_10 ?_
  first | refine zz_aload_n C dX3_init_13 rfl ?_ | refine zz_aload_nN C dX3_init_13 rfl ?_
  refine zz_get C rfl (by first | exact hX | exact zz_lk3 hne hX | exact zz_lk3 hne (zz_lk3 hne hX) | exact zz_lk3 hne (zz_lk3 hne (zz_lk3 hne hX)) | exact zz_lk3 hne (zz_lk3 hne (zz_lk3 hne (zz_lk3 hne hX)))) rfl in_X3 3 rfl q401 (fun _ h => h) (by first | rfl | assumption) dX3_init_14 ?_
  first | refine zz_aload_n C dX3_init_17 rfl ?_ | refine zz_aload_nN C dX3_init_17 rfl ?_
  refine zz_get C rfl (by first | exact hX | exact zz_lk3 hne hX | exact zz_lk3 hne (zz_lk3 hne hX) | exact zz_lk3 hne (zz_lk3 hne (zz_lk3 hne hX)) | exact zz_lk3 hne (zz_lk3 hne (zz_lk3 hne (zz_lk3 hne hX)))) rfl in_X3 5 rfl q406 (fun _ h => h) (by first | rfl | assumption) dX3_init_18 ?_
  refine zz_callI C zy_X3_init_2 (ct_X3_init_2 hB) rfl q388 rfl rfl rfl rfl rfl dX3_init_21 ⟨Nat.le_of_ble_eq_true rfl, Nat.le_of_ble_eq_true rfl⟩ (fun v hz hp => ?_)
  obtain ⟨rfl, ez⟩ := hp
  obtain rfl := ez.symm
  first | refine zz_aload_n C dX3_init_24 rfl ?_ | refine zz_aload_nN C dX3_init_24 rfl ?_
  first | refine zz_aload_n C dX3_init_25 rfl ?_ | refine zz_aload_nN C dX3_init_25 rfl ?_
  refine zz_get C rfl (by first | exact hX | exact zz_lk3 hne hX | exact zz_lk3 hne (zz_lk3 hne hX) | exact zz_lk3 hne (zz_lk3 hne (zz_lk3 hne hX)) | exact zz_lk3 hne (zz_lk3 hne (zz_lk3 hne (zz_lk3 hne hX)))) rfl in_X3 4 rfl q403 (fun _ h => h) (by first | rfl | assumption) dX3_init_26 ?_
  refine zz_put C rfl (by first | assumption | exact zz_us | exact zz_lk1 (by assumption) (by assumption) | exact zz_lk3 (hd _ _ (by decide) (by decide) (by decide)) (by assumption) | exact zz_uf (by assumption) (by assumption) | exact zz_lk3 (zz_xi (by assumption) (by assumption)) (zz_lk1 (by assumption) (by assumption)) | exact zz_lk3 (hd _ _ (by decide) (by decide) (by decide)) (zz_lk3 (hd _ _ (by decide) (by decide) (by decide)) (by assumption)) | (simp only [zz_up]; simp_all; done)) rfl in_X3 tyX3 tyX3_ok nmX3 4 rfl q403 (fun _ h => h) rfl (tyX3_ok 4 (by decide)) (by first | rfl | exact zz_narZ (by first | exact zz_b01 _ | assumption | decide)) rfl (Nat.le_of_ble_eq_true rfl) dX3_init_29 ?_
  first | refine zz_aload_n C dX3_init_32 rfl ?_ | refine zz_aload_nN C dX3_init_32 rfl ?_
  first | refine zz_aload_n C dX3_init_33 rfl ?_ | refine zz_aload_nN C dX3_init_33 rfl ?_
  refine zz_get C rfl (by first | exact hX | exact zz_lk3 hne hX | exact zz_lk3 hne (zz_lk3 hne hX) | exact zz_lk3 hne (zz_lk3 hne (zz_lk3 hne hX)) | exact zz_lk3 hne (zz_lk3 hne (zz_lk3 hne (zz_lk3 hne hX)))) rfl in_X3 6 rfl q409 (fun _ h => h) (by first | rfl | assumption) dX3_init_34 ?_
  refine zz_put C rfl (by first | assumption | exact zz_us | exact zz_lk1 (by assumption) (by assumption) | exact zz_lk3 (hd _ _ (by decide) (by decide) (by decide)) (by assumption) | exact zz_uf (by assumption) (by assumption) | exact zz_lk3 (zz_xi (by assumption) (by assumption)) (zz_lk1 (by assumption) (by assumption)) | exact zz_lk3 (hd _ _ (by decide) (by decide) (by decide)) (zz_lk3 (hd _ _ (by decide) (by decide) (by decide)) (by assumption)) | (simp only [zz_up]; simp_all; done)) rfl in_X3 tyX3 tyX3_ok nmX3 6 rfl q409 (fun _ h => h) rfl (tyX3_ok 6 (by decide)) (by first | rfl | exact zz_narZ (by first | exact zz_b01 _ | assumption | decide)) rfl (Nat.le_of_ble_eq_true rfl) dX3_init_37 ?_
  first | refine zz_aload_n C dX3_init_40 rfl ?_ | refine zz_aload_nN C dX3_init_40 rfl ?_
  first | refine zz_aload_n C dX3_init_41 rfl ?_ | refine zz_aload_nN C dX3_init_41 rfl ?_
  refine zz_get C rfl (by first | exact hX | exact zz_lk3 hne hX | exact zz_lk3 hne (zz_lk3 hne hX) | exact zz_lk3 hne (zz_lk3 hne (zz_lk3 hne hX)) | exact zz_lk3 hne (zz_lk3 hne (zz_lk3 hne (zz_lk3 hne hX)))) rfl in_X3 7 rfl q412 (fun _ h => h) (by first | rfl | assumption) dX3_init_42 ?_
  refine zz_put C rfl (by first | assumption | exact zz_us | exact zz_lk1 (by assumption) (by assumption) | exact zz_lk3 (hd _ _ (by decide) (by decide) (by decide)) (by assumption) | exact zz_uf (by assumption) (by assumption) | exact zz_lk3 (zz_xi (by assumption) (by assumption)) (zz_lk1 (by assumption) (by assumption)) | exact zz_lk3 (hd _ _ (by decide) (by decide) (by decide)) (zz_lk3 (hd _ _ (by decide) (by decide) (by decide)) (by assumption)) | (simp only [zz_up]; simp_all; done)) rfl in_X3 tyX3 tyX3_ok nmX3 7 rfl q412 (fun _ h => h) rfl (tyX3_ok 7 (by decide)) (by first | rfl | exact zz_narZ (by first | exact zz_b01 _ | assumption | decide)) rfl (Nat.le_of_ble_eq_true rfl) dX3_init_45 ?_
  first | refine zz_aload_n C dX3_init_48 rfl ?_ | refine zz_aload_nN C dX3_init_48 rfl ?_
  first | refine zz_aload_n C dX3_init_49 rfl ?_ | refine zz_aload_nN C dX3_init_49 rfl ?_
  refine zz_get C rfl (by first | exact hX | exact zz_lk3 hne hX | exact zz_lk3 hne (zz_lk3 hne hX) | exact zz_lk3 hne (zz_lk3 hne (zz_lk3 hne hX)) | exact zz_lk3 hne (zz_lk3 hne (zz_lk3 hne (zz_lk3 hne hX)))) rfl in_X3 8 rfl q415 (fun _ h => h) (by first | rfl | assumption) dX3_init_50 ?_
  refine zz_put C rfl (by first | assumption | exact zz_us | exact zz_lk1 (by assumption) (by assumption) | exact zz_lk3 (hd _ _ (by decide) (by decide) (by decide)) (by assumption) | exact zz_uf (by assumption) (by assumption) | exact zz_lk3 (zz_xi (by assumption) (by assumption)) (zz_lk1 (by assumption) (by assumption)) | exact zz_lk3 (hd _ _ (by decide) (by decide) (by decide)) (zz_lk3 (hd _ _ (by decide) (by decide) (by decide)) (by assumption)) | (simp only [zz_up]; simp_all; done)) rfl in_X3 tyX3 tyX3_ok nmX3 8 rfl q415 (fun _ h => h) rfl (tyX3_ok 8 (by decide)) (by first | rfl | exact zz_narZ (by first | exact zz_b01 _ | assumption | decide)) (by first | exact zz_fitZ _ | rfl | exact zz_fit01 (by assumption)) (Nat.le_of_ble_eq_true rfl) dX3_init_53 ?_
  refine zz_vret C dX3_init_56 rfl rfl ?_
  exact ⟨rfl, by rw [zz_upup, zz_upup, zz_upup, zz_upup]; rfl⟩

theorem ct_X3_weight {l : Launch} {D : va_G} {b0 : Nat} {h : zz_H} {B s0 : Nat} {n0 d0 f0 w0 t0 o0 p0 c0 : Int32} (hB : h B = some (bl_G n0 s0 d0 f0 w0 t0 o0 p0 c0)) {x0 y0 z0 : Int32} (hZ : h s0 = some (sz_F x0 y0 z0))  : zz_Ct l D b0 yX3_weight cX3_weight 1 (some .int) 1 21 0 0 [.ref B] h (fun v h' => v = some (.int (x0 * y0 * z0 * d0 / 10000)) ∧ h' = h) := by
  refine zz_Ct.of zy_X3_weight.1 rfl ?_
  intro p e s m below meth c C
  first | refine zz_aload_n C dX3_weight_0 rfl ?_ | refine zz_aload_nN C dX3_weight_0 rfl ?_
  refine zz_get C rfl (by first | assumption | exact zz_us | exact zz_lk1 (by assumption) (by assumption) | exact zz_lk3 (hd _ _ (by decide) (by decide) (by decide)) (by assumption) | exact zz_uf (by assumption) (by assumption) | exact zz_lk3 (zz_xi (by assumption) (by assumption)) (zz_lk1 (by assumption) (by assumption)) | exact zz_lk3 (hd _ _ (by decide) (by decide) (by decide)) (zz_lk3 (hd _ _ (by decide) (by decide) (by decide)) (by assumption)) | (simp only [zz_up]; simp_all; done)) rfl in_X3 1 rfl q395 (fun _ h => h) (by first | rfl | assumption) dX3_weight_1 ?_
  first | refine zz_aload_n C dX3_weight_4 rfl ?_ | refine zz_aload_nN C dX3_weight_4 rfl ?_
  refine zz_get C rfl (by first | assumption | exact zz_us | exact zz_lk1 (by assumption) (by assumption) | exact zz_lk3 (hd _ _ (by decide) (by decide) (by decide)) (by assumption) | exact zz_uf (by assumption) (by assumption) | exact zz_lk3 (zz_xi (by assumption) (by assumption)) (zz_lk1 (by assumption) (by assumption)) | exact zz_lk3 (hd _ _ (by decide) (by decide) (by decide)) (zz_lk3 (hd _ _ (by decide) (by decide) (by decide)) (by assumption)) | (simp only [zz_up]; simp_all; done)) rfl in_X3 2 rfl q398 (fun _ h => h) (by first | rfl | assumption) dX3_weight_5 ?_
  refine zz_callV C zy_X5_weight (ct_X5_weight hZ) rfl q575 (by first | assumption | exact zz_us | exact zz_lk1 (by assumption) (by assumption) | exact zz_lk3 (hd _ _ (by decide) (by decide) (by decide)) (by assumption) | exact zz_uf (by assumption) (by assumption) | exact zz_lk3 (zz_xi (by assumption) (by assumption)) (zz_lk1 (by assumption) (by assumption)) | exact zz_lk3 (hd _ _ (by decide) (by decide) (by decide)) (zz_lk3 (hd _ _ (by decide) (by decide) (by decide)) (by assumption)) | (simp only [zz_up]; simp_all; done)) rfl rfl rfl rfl rfl rfl dX3_weight_8 ⟨Nat.le_of_ble_eq_true rfl, Nat.le_of_ble_eq_true rfl⟩ (fun v hz hp => ?_)
  obtain ⟨rfl, ez⟩ := hp
  obtain rfl := ez.symm
  refine zz_iret C dX3_weight_11 rfl rfl ?_
  exact ⟨rfl, rfl⟩

theorem ct_X3_isAtHand {l : Launch} {D : va_G} {b0 : Nat} {h : zz_H} {B s0 : Nat} {n0 d0 f0 w0 t0 o0 p0 c0 : Int32} (hB : h B = some (bl_G n0 s0 d0 f0 w0 t0 o0 p0 c0))  : zz_Ct l D b0 yX3_isAtHand cX3_isAtHand 1 (some .boolean) 0 0 0 0 [.ref B] h (fun v h' => v = some (.int (zz_b (decide (w0 = 0) || decide (w0 = 1)))) ∧ h' = h) := by
  refine zz_Ct.of zy_X3_isAtHand.1 rfl ?_
  intro p e s m below meth c C
  first | refine zz_aload_n C dX3_isAtHand_0 rfl ?_ | refine zz_aload_nN C dX3_isAtHand_0 rfl ?_
  refine zz_get C rfl (by first | assumption | exact zz_us | exact zz_lk1 (by assumption) (by assumption) | exact zz_lk3 (hd _ _ (by decide) (by decide) (by decide)) (by assumption) | exact zz_uf (by assumption) (by assumption) | exact zz_lk3 (zz_xi (by assumption) (by assumption)) (zz_lk1 (by assumption) (by assumption)) | exact zz_lk3 (hd _ _ (by decide) (by decide) (by decide)) (zz_lk3 (hd _ _ (by decide) (by decide) (by decide)) (by assumption)) | (simp only [zz_up]; simp_all; done)) rfl in_X3 4 rfl q403 (fun _ h => h) (by first | rfl | assumption) dX3_isAtHand_1 ?_
  refine zz_if_eq (tgt := 15) C dX3_isAtHand_4 (by decide) (fun c4 => ?_) (fun c4 => ?_)
  · refine zz_iconst (v := 1) C dX3_isAtHand_15 (by decide) ?_
    refine zz_goto (tgt := 20) C dX3_isAtHand_16 (by decide) ?_
    refine zz_zret0 C (zz_narZ (by first | exact zz_b01 _ | decide | assumption)) dX3_isAtHand_20 rfl rfl ?_
    exact ⟨by simp_all [zz_b], rfl⟩
  · first | refine zz_aload_n C dX3_isAtHand_7 rfl ?_ | refine zz_aload_nN C dX3_isAtHand_7 rfl ?_
    refine zz_get C rfl (by first | assumption | exact zz_us | exact zz_lk1 (by assumption) (by assumption) | exact zz_lk3 (hd _ _ (by decide) (by decide) (by decide)) (by assumption) | exact zz_uf (by assumption) (by assumption) | exact zz_lk3 (zz_xi (by assumption) (by assumption)) (zz_lk1 (by assumption) (by assumption)) | exact zz_lk3 (hd _ _ (by decide) (by decide) (by decide)) (zz_lk3 (hd _ _ (by decide) (by decide) (by decide)) (by assumption)) | (simp only [zz_up]; simp_all; done)) rfl in_X3 4 rfl q403 (fun _ h => h) (by first | rfl | assumption) dX3_isAtHand_8 ?_
    refine zz_iconst (v := 1) C dX3_isAtHand_11 (by decide) ?_
    refine zz_icmp_ne (tgt := 19) C dX3_isAtHand_12 (by decide) (fun c12 => ?_) (fun c12 => ?_)
    · refine zz_iconst (v := 0) C dX3_isAtHand_19 (by decide) ?_
      refine zz_zret0 C (zz_narZ (by first | exact zz_b01 _ | decide | assumption)) dX3_isAtHand_20 rfl rfl ?_
      exact ⟨by simp_all [zz_b], rfl⟩
    · refine zz_iconst (v := 1) C dX3_isAtHand_15 (by decide) ?_
      refine zz_goto (tgt := 20) C dX3_isAtHand_16 (by decide) ?_
      refine zz_zret0 C (zz_narZ (by first | exact zz_b01 _ | decide | assumption)) dX3_isAtHand_20 rfl rfl ?_
      exact ⟨by simp_all [zz_b], rfl⟩

theorem ct_X3_isHere {l : Launch} {D : va_G} {b0 : Nat} {h : zz_H} {B s0 : Nat} {n0 d0 f0 w0 t0 o0 p0 c0 : Int32} (hB : h B = some (bl_G n0 s0 d0 f0 w0 t0 o0 p0 c0))  : zz_Ct l D b0 yX3_isHere cX3_isHere 1 (some .boolean) 0 0 0 0 [.ref B] h (fun v h' => v = some (.int (zz_b (decide (w0 ≤ 2)))) ∧ h' = h) := by
  refine zz_Ct.of zy_X3_isHere.1 rfl ?_
  intro p e s m below meth c C
  first | refine zz_aload_n C dX3_isHere_0 rfl ?_ | refine zz_aload_nN C dX3_isHere_0 rfl ?_
  refine zz_get C rfl (by first | assumption | exact zz_us | exact zz_lk1 (by assumption) (by assumption) | exact zz_lk3 (hd _ _ (by decide) (by decide) (by decide)) (by assumption) | exact zz_uf (by assumption) (by assumption) | exact zz_lk3 (zz_xi (by assumption) (by assumption)) (zz_lk1 (by assumption) (by assumption)) | exact zz_lk3 (hd _ _ (by decide) (by decide) (by decide)) (zz_lk3 (hd _ _ (by decide) (by decide) (by decide)) (by assumption)) | (simp only [zz_up]; simp_all; done)) rfl in_X3 4 rfl q403 (fun _ h => h) (by first | rfl | assumption) dX3_isHere_1 ?_
  refine zz_iconst (v := 2) C dX3_isHere_4 (by decide) ?_
  refine zz_icmp_gt (tgt := 12) C dX3_isHere_5 (by decide) (fun c5 => ?_) (fun c5 => ?_)
  · refine zz_iconst (v := 0) C dX3_isHere_12 (by decide) ?_
    refine zz_zret0 C (zz_narZ (by first | exact zz_b01 _ | decide | assumption)) dX3_isHere_13 rfl rfl ?_
    first | exact ⟨by rw [decide_eq_false (Int32.not_le.mpr c5)]; rfl, rfl⟩ | exact ⟨by rw [decide_eq_true (Int32.not_lt.mp c5)]; rfl, rfl⟩
  · refine zz_iconst (v := 1) C dX3_isHere_8 (by decide) ?_
    refine zz_goto (tgt := 13) C dX3_isHere_9 (by decide) ?_
    refine zz_zret0 C (zz_narZ (by first | exact zz_b01 _ | decide | assumption)) dX3_isHere_13 rfl rfl ?_
    first | exact ⟨by rw [decide_eq_false (Int32.not_le.mpr c5)]; rfl, rfl⟩ | exact ⟨by rw [decide_eq_true (Int32.not_lt.mp c5)]; rfl, rfl⟩

theorem ct_X3_isOn {l : Launch} {D : va_G} {b0 : Nat} {h : zz_H} {B s0 : Nat} {n0 d0 f0 w0 t0 o0 p0 c0 : Int32} (hB : h B = some (bl_G n0 s0 d0 f0 w0 t0 o0 p0 c0)) {v1 : Int32}  : zz_Ct l D b0 yX3_isOn cX3_isOn 2 (some .boolean) 0 0 0 0 [.ref B, .int v1] h (fun v h' => v = some (.int (zz_b (decide (w0 = 2) && decide (p0 / 5 = v1)))) ∧ h' = h) := by
  refine zz_Ct.of zy_X3_isOn.1 rfl ?_
  intro p e s m below meth c C
  first | refine zz_aload_n C dX3_isOn_0 rfl ?_ | refine zz_aload_nN C dX3_isOn_0 rfl ?_
  refine zz_get C rfl (by first | assumption | exact zz_us | exact zz_lk1 (by assumption) (by assumption) | exact zz_lk3 (hd _ _ (by decide) (by decide) (by decide)) (by assumption) | exact zz_uf (by assumption) (by assumption) | exact zz_lk3 (zz_xi (by assumption) (by assumption)) (zz_lk1 (by assumption) (by assumption)) | exact zz_lk3 (hd _ _ (by decide) (by decide) (by decide)) (zz_lk3 (hd _ _ (by decide) (by decide) (by decide)) (by assumption)) | (simp only [zz_up]; simp_all; done)) rfl in_X3 4 rfl q403 (fun _ h => h) (by first | rfl | assumption) dX3_isOn_1 ?_
  refine zz_iconst (v := 2) C dX3_isOn_4 (by decide) ?_
  refine zz_icmp_ne (tgt := 22) C dX3_isOn_5 (by decide) (fun c5 => ?_) (fun c5 => ?_)
  · refine zz_iconst (v := 0) C dX3_isOn_22 (by decide) ?_
    refine zz_zret0 C (zz_narZ (by first | exact zz_b01 _ | decide | assumption)) dX3_isOn_23 rfl rfl ?_
    exact ⟨by simp_all [zz_b], rfl⟩
  · first | refine zz_aload_n C dX3_isOn_8 rfl ?_ | refine zz_aload_nN C dX3_isOn_8 rfl ?_
    refine zz_get C rfl (by first | assumption | exact zz_us | exact zz_lk1 (by assumption) (by assumption) | exact zz_lk3 (hd _ _ (by decide) (by decide) (by decide)) (by assumption) | exact zz_uf (by assumption) (by assumption) | exact zz_lk3 (zz_xi (by assumption) (by assumption)) (zz_lk1 (by assumption) (by assumption)) | exact zz_lk3 (hd _ _ (by decide) (by decide) (by decide)) (zz_lk3 (hd _ _ (by decide) (by decide) (by decide)) (by assumption)) | (simp only [zz_up]; simp_all; done)) rfl in_X3 7 rfl q412 (fun _ h => h) (by first | rfl | assumption) dX3_isOn_9 ?_
    refine zz_iconst (v := 5) C dX3_isOn_12 (by decide) ?_
    refine zz_idiv C dX3_isOn_13 (by decide) ?_
    refine zz_iload_n C dX3_isOn_14 rfl ?_
    refine zz_icmp_ne (tgt := 22) C dX3_isOn_15 (by decide) (fun c15 => ?_) (fun c15 => ?_)
    · refine zz_iconst (v := 0) C dX3_isOn_22 (by decide) ?_
      refine zz_zret0 C (zz_narZ (by first | exact zz_b01 _ | decide | assumption)) dX3_isOn_23 rfl rfl ?_
      exact ⟨by simp_all [zz_b], rfl⟩
    · refine zz_iconst (v := 1) C dX3_isOn_18 (by decide) ?_
      refine zz_goto (tgt := 23) C dX3_isOn_19 (by decide) ?_
      refine zz_zret0 C (zz_narZ (by first | exact zz_b01 _ | decide | assumption)) dX3_isOn_23 rfl rfl ?_
      exact ⟨by simp_all [zz_b], rfl⟩

