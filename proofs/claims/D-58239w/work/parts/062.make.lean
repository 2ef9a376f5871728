/-! the quarry: new blocks -/
/-- block nb is new -/
def ca_mk (a : Nat → Int32) (nb : Nat) (x y z d w t c f : Int32) : Nat → Int32 := fun j => if j = 5 then a 5 + 1 else if 12 + 10 * nb ≤ j ∧ j < 12 + 10 * nb + 10 then (if j = 12 + 10 * nb then x else if j = 12 + 10 * nb + 1 then y else if j = 12 + 10 * nb + 2 then z else if j = 12 + 10 * nb + 3 then d else if j = 12 + 10 * nb + 4 then w else if j = 12 + 10 * nb + 5 then t else if j = 12 + 10 * nb + 6 then c else if j = 12 + 10 * nb + 9 then f else -6) else a j
theorem ca_mk_o {a : Nat → Int32} {nb j : Nat} {x y z d w t c f : Int32} (h5 : j ≠ 5) (h : j < 12 + 10 * nb ∨ 12 + 10 * nb + 10 ≤ j) : ca_mk a nb x y z d w t c f j = a j := by
  unfold ca_mk
  rw [if_neg h5, if_neg (by omega)]
theorem ca_mk_b {a : Nat → Int32} {nb s : Nat} {x y z d w t c f : Int32} : bl_G (nI nb) s d f w t (-6) (-6) c = bl_F (ca_mk a nb x y z d w t c f) nb s := by
  unfold bl_F ca_mk
  simp
  exact ⟨fun h => by omega, fun h => by omega⟩
theorem ca_mk_s {a : Nat → Int32} {nb : Nat} {x y z d w t c f : Int32} : sz_F x y z = bs_F (ca_mk a nb x y z d w t c f) nb := by
  unfold bs_F ca_mk
  simp
  exact ⟨fun h => by omega, fun h => by omega, fun h => by omega⟩
theorem qu_I.anyb {D : va_G} {h : zz_H} {ow : Nat → Nat × Nat} {q : Nat} {ad sz : Nat → Nat} {a : Nat → Int32} {nb no : Nat} (H : qu_I D h ow q ad sz a nb no) : ∀ i : Nat, i < nb → zz_any D h (ad (10 + i)) := fun i hi => Or.inl ⟨2, _, _, H.gb hi, rfl, by decide +kernel⟩
theorem qu_I.anyo {D : va_G} {h : zz_H} {ow : Nat → Nat × Nat} {q : Nat} {ad sz : Nat → Nat} {a : Nat → Int32} {nb no : Nat} (H : qu_I D h ow q ad sz a nb no) : ∀ i : Nat, i < no → zz_any D h (ad (40 + i)) := fun i hi => Or.inl ⟨3, _, _, H.go hi, rfl, by decide +kernel⟩
theorem zz_any_b {D : va_G} {h : zz_H} {o s : Nat} {n d f w t r p c : Int32} (hh : h o = some (bl_G n s d f w t r p c)) : zz_any D h o := Or.inl ⟨2, _, _, hh, rfl, by decide +kernel⟩
theorem zz_any_o {D : va_G} {h : zz_H} {o s : Nat} {t b i : Int32} (hh : h o = some (or_G s t b i)) : zz_any D h o := Or.inl ⟨3, _, _, hh, rfl, by decide +kernel⟩
theorem qu_Lx.nw {D : va_G} {h : zz_H} {ow : Nat → Nat × Nat} {tag : Nat × Nat} {L n ar cap x : Nat} {el : Nat → Nat} {mc : Int32} {f : Nat → Option Nat} {e : va_E} (H : qu_Lx D h ow tag L n el mc ar cap f) (hx : h x = none) : qu_Lx D (zz_up h x e) ow tag L n el mc ar cap f := H.fr (fun _ he => zz_uf he hx) (fun _ _ he hy => ⟨zz_uf he hx, hy⟩)
theorem qu_I.gnb {D : va_G} {h : zz_H} {ow : Nat → Nat × Nat} {q o sn : Nat} {ad sz : Nat → Nat} {a : Nat → Int32} {nb no : Nat} (H : qu_I D h ow q (adU ad (10 + nb) o) (adU sz nb sn) a (nb + 1) no) : h o = some (bl_F a nb sn) ∧ h sn = some (bs_F a nb) := by
  have h1 := H.gb (b := nb) (by omega)
  have h2 := H.gz (b := nb) (by omega)
  rw [adU_s, adU_s] at h1
  rw [adU_s] at h2
  exact ⟨h1, h2⟩
theorem qa_qua_o {a : Nat → Int32} {nb j : Nat} {x y z d : Int32} (h5 : j ≠ 5) (h : j < 12 + 10 * nb ∨ 12 + 10 * nb + 10 ≤ j) : qa_qua a nb x y z d j = a j := by
  unfold qa_qua
  rw [up_n (by omega), qa_new_ot h5 h]
theorem qa_qua_f {a : Nat → Int32} {nb k : Nat} {x y z d : Int32} (hk : k < 10) : qa_qua a nb x y z d (12 + 10 * nb + k) = if k = 5 then 3 else if k = 0 then x else if k = 1 then y else if k = 2 then z else if k = 3 then d else if k = 7 then -6 else if k = 8 then -6 else if k = 9 then -6 else 0 := by
  unfold qa_qua
  by_cases h5 : k = 5
  · rw [h5, up_s, if_pos rfl]
  · rw [up_n (by omega), if_neg h5, qa_new_f hk]
theorem qa_qua_b {a : Nat → Int32} {nb s : Nat} {x y z d : Int32} : bl_G (nI nb) s d (-6) 0 3 (-6) (-6) 0 = bl_F (qa_qua a nb x y z d) nb s := by
  unfold bl_F
  rw [qa_qua_f (k := 3) (by decide), qa_qua_f (k := 4) (by decide), qa_qua_f (k := 5) (by decide), qa_qua_f (k := 6) (by decide), qa_qua_f (k := 7) (by decide), qa_qua_f (k := 8) (by decide), qa_qua_f (k := 9) (by decide)]
  rfl
theorem qa_qua_s {a : Nat → Int32} {nb : Nat} {x y z d : Int32} : sz_F x y z = bs_F (qa_qua a nb x y z d) nb := by
  unfold bs_F
  rw [show qa_qua a nb x y z d (12 + 10 * nb) = _ from qa_qua_f (k := 0) (by decide), qa_qua_f (k := 1) (by decide), qa_qua_f (k := 2) (by decide)]
  rfl
theorem ct_X1_quarry {l : Launch} {D : va_G} {b0 : Nat} {h : zz_H} {q : Nat} {ow : Nat → Nat × Nat} {ad sz : Nat → Nat} {a : Nat → Int32} {nb no : Nat} (hnb : nb < 24) (hno : no ≤ 10) (hQ : qu_I D h ow q ad sz a nb no) {sn : Nat} {x0 y0 w0 v2 : Int32} (hsn : h sn = some (sz_F x0 y0 w0)) (hos : (ow sn).1 = sn)  : zz_Ct l D b0 yX1_quarry cX1_quarry 4 (some .int) 7 191 2 200 [.ref q, .ref sn, .int v2] h (fun v h' => ∃ (ow' : Nat → Nat × Nat) (ad' sz' : Nat → Nat), v = some (.int (nI nb)) ∧ qu_I D h' ow' q ad' sz' (upd (qa_qua a nb x0 y0 w0 v2) 8 ((qa_qua a nb x0 y0 w0 v2) 8 + qa_w (qa_qua a nb x0 y0 w0 v2) nb)) (nb + 1) no ∧ qu_F q h ow h' ow') := by
  refine zz_Ct.of zy_X1_quarry.1 rfl ?_
  intro p e s m below meth c C
  refine zz_def C (fun hD => ?_)
  obtain ⟨mcL, ar, cap, f, hLx⟩ := hQ.gL
  refine zz_new (ci := 2) (fs := [.int 0, .null, .int 0, .int 0, .int 0, .int 0, .int 0, .int 0, .int 0]) (Cn := RX3) (T := TX3) (N := 9) C rfl rfl in_X3 tyX3 tyX3_ok q383 q384 q103 (by intro j hj; match j, hj with | 0, _ => rfl | 1, _ => rfl | 2, _ => rfl | 3, _ => rfl | 4, _ => rfl | 5, _ => rfl | 6, _ => rfl | 7, _ => rfl | 8, _ => rfl) rfl rfl dX1_quarry_0 (fun o0 n0 b0 => ?_)
  have hoD : o0 ≠ D.2 1000 3 := fun g => (zz_tDEF C).out (by rw [← g]; exact b0)
  refine zz_dup C dX1_quarry_3 rfl ?_
  first | refine zz_aload_n C dX1_quarry_4 rfl ?_ | refine zz_aload_nN C dX1_quarry_4 rfl ?_
  refine zz_get C rfl (zz_uf hQ.gq n0) rfl in_X1 5 rfl q183 (fun _ h => h) (by first | rfl | assumption) dX1_quarry_5 ?_
  refine zz_callF (x2 := ⟨"java/util/List", "size", "()I"⟩) C zy_J2_size (ct_J2_size (zz_uf hLx.1 n0)) rfl q567 q299 q301 nif_0 nid_0 (zz_uf hLx.1 n0) rfl rfl rfl rfl rfl rfl dX1_quarry_8 ⟨Nat.le_of_ble_eq_true rfl, Nat.le_of_ble_eq_true rfl⟩ (fun v hz hp => ?_)
  obtain ⟨rfl, ez⟩ := hp
  obtain rfl := ez.symm
  first | refine zz_aload_n C dX1_quarry_13 rfl ?_ | refine zz_aload_nN C dX1_quarry_13 rfl ?_
  refine zz_iload_n C dX1_quarry_14 rfl ?_
  refine zz_callI C zy_X3_init_3 (ct_X3_init_3 zz_us) rfl q568 rfl rfl rfl rfl rfl dX1_quarry_15 ⟨Nat.le_of_ble_eq_true rfl, Nat.le_of_ble_eq_true rfl⟩ (fun v hz hp => ?_)
  obtain ⟨rfl, ez⟩ := hp
  rw [zz_upup] at ez
  obtain rfl := ez.symm
  refine zz_astore_n C dX1_quarry_18 (by decide) ?_
  first | refine zz_aload_n C dX1_quarry_19 rfl ?_ | refine zz_aload_nN C dX1_quarry_19 rfl ?_
  refine zz_get C rfl (zz_uf hQ.gq n0) rfl in_X1 5 rfl q183 (fun _ h => h) (by first | rfl | assumption) dX1_quarry_20 ?_
  first | refine zz_aload_n C dX1_quarry_23 rfl ?_ | refine zz_aload_nN C dX1_quarry_23 rfl ?_
  refine zz_callF (x2 := ⟨"java/util/List", "add", "(Ljava/lang/Object;)Z"⟩) C zy_J2_add (ct_J2_add (by omega) ((hLx.nw n0).A (hQ.nw n0).anyb) (zz_any_b zz_us) (zz_uf hLx.1 n0)) rfl q438 q441 q443 nif_3 nid_3 (zz_uf hLx.1 n0) rfl rfl rfl rfl rfl rfl dX1_quarry_24 ⟨Nat.le_of_ble_eq_true rfl, Nat.le_of_ble_eq_true rfl⟩ (fun v hz hp => ?_)
  obtain ⟨ar', cap', f', rfl, ez, hR⟩ := hp
  obtain rfl := ez.symm
  obtain ⟨ow2, hQ2, hF2⟩ := hQ.addb (a' := qa_qua a nb x0 y0 w0 v2) hnb hno hD n0 hoD hLx hR (fun j hj h5 h6 => qa_qua_o h5 (by omega)) (fun j h1 h2 => qa_qua_o (by omega) (by omega)) (fun j hj => qa_qua_o (by omega) (by omega)) qa_qua_b (hsn.trans (congrArg some qa_qua_s)) hos
  refine zz_gen (P := fun h' => qu_I D h' ow2 q (adU ad (10 + nb) o0) (adU sz nb sn) (qa_qua a nb x0 y0 w0 v2) (nb + 1) no ∧ qu_F q h ow h' ow2) ⟨hQ2, hF2⟩ (fun hz hP => ?_)
  obtain ⟨hQ2, hF2⟩ := hP
  refine zz_pop C dX1_quarry_29 rfl ?_
  first | refine zz_aload_n C dX1_quarry_30 rfl ?_ | refine zz_aload_nN C dX1_quarry_30 rfl ?_
  refine zz_dup C dX1_quarry_31 rfl ?_
  refine zz_get C rfl hQ2.gq rfl in_X1 9 rfl q191 (fun _ h => h) (by first | rfl | assumption) dX1_quarry_32 ?_
  first | refine zz_aload_n C dX1_quarry_35 rfl ?_ | refine zz_aload_nN C dX1_quarry_35 rfl ?_
  refine zz_callV C zy_X3_weight (ct_X3_weight hQ2.gnb.1 hQ2.gnb.2) rfl q571 hQ2.gnb.1 rfl rfl rfl rfl rfl rfl dX1_quarry_36 ⟨Nat.le_of_ble_eq_true rfl, Nat.le_of_ble_eq_true rfl⟩ (fun v hz hp => ?_)
  obtain ⟨rfl, ez⟩ := hp
  obtain rfl := ez.symm
  rw [qa_w_e]
  refine zz_iadd C dX1_quarry_39 ?_
  refine zz_put C rfl hQ2.gq rfl in_X1 tyX1 tyX1_ok nmX1 9 rfl q191 (fun _ h => h) rfl (tyX1_ok 9 (by decide)) (by first | rfl | exact zz_narZ (by first | exact zz_b01 _ | assumption | decide)) rfl (Nat.le_of_ble_eq_true rfl) dX1_quarry_40 ?_
  refine zz_gen (P := fun h' => qu_I D h' ow2 q (adU ad (10 + nb) o0) (adU sz nb sn) (upd (qa_qua a nb x0 y0 w0 v2) 8 ((qa_qua a nb x0 y0 w0 v2) 8 + qa_w (qa_qua a nb x0 y0 w0 v2) nb)) (nb + 1) no ∧ qu_F q h ow h' ow2) ⟨hQ2.wq8 (by omega) hno, hF2.tr (qu_F.up (by rw [hQ2.oq]))⟩ (fun hz hP => ?_)
  obtain ⟨hQ2, hF2⟩ := hP
  first | refine zz_aload_n C dX1_quarry_43 rfl ?_ | refine zz_aload_nN C dX1_quarry_43 rfl ?_
  refine zz_getN C rfl hQ2.gnb.1 rfl in_X3 0 rfl (nst_16 C) (fun _ h => h) (by first | rfl | assumption) dX1_quarry_44 ?_
  refine zz_iret C dX1_quarry_47 rfl rfl ?_
  exact ⟨ow2, _, _, rfl, hQ2, hF2⟩

theorem ct_X1_make {l : Launch} {D : va_G} {b0 : Nat} {h : zz_H} {q : Nat} {ow : Nat → Nat × Nat} {ad sz : Nat → Nat} {a : Nat → Int32} {nb no : Nat} (hnb : nb < 24) (hno : no ≤ 10) (hQ : qu_I D h ow q ad sz a nb no) {S sb : Nat} {n9 d0 f0 w0 t0 r0 p0 c0 x0 y0 z0 : Int32} (hc0 : c0 = 0 ∨ c0 = 1) (hS : h S = some (bl_G n9 sb d0 f0 w0 t0 r0 p0 c0)) (hZ : h sb = some (sz_F x0 y0 z0)) {v2 v3 : Int32}  : zz_Ct l D b0 yX1_make cX1_make 5 (none) 7 191 4 200 [.ref q, .ref S, .int v2, .int v3] h (fun v h' => ∃ (ow' : Nat → Nat × Nat) (ad' sz' : Nat → Nat), v = none ∧ qu_I D h' ow' q ad' sz' (upd (ca_mk a nb (if v2 = 0 then v3 else x0) (if v2 = 1 then v3 else y0) (if v2 = 2 then v3 else z0) d0 (if (decide (w0 = 1) && decide (nI (qa_cnt (fun b => decide (a (12 + 10 * b + 4) = 1)) nb) < 4)) = true then 1 else 0) t0 c0 n9) 9 ((ca_mk a nb (if v2 = 0 then v3 else x0) (if v2 = 1 then v3 else y0) (if v2 = 2 then v3 else z0) d0 (if (decide (w0 = 1) && decide (nI (qa_cnt (fun b => decide (a (12 + 10 * b + 4) = 1)) nb) < 4)) = true then 1 else 0) t0 c0 n9) 9 - qa_w (ca_mk a nb (if v2 = 0 then v3 else x0) (if v2 = 1 then v3 else y0) (if v2 = 2 then v3 else z0) d0 (if (decide (w0 = 1) && decide (nI (qa_cnt (fun b => decide (a (12 + 10 * b + 4) = 1)) nb) < 4)) = true then 1 else 0) t0 c0 n9) nb)) (nb + 1) no ∧ qu_F q h ow h' ow') := by
  refine zz_Ct.of zy_X1_make.1 rfl ?_
  intro p e s m below meth c C
  refine zz_def C (fun hD => ?_)
  obtain ⟨mcL, ar, cap, f, hLx⟩ := hQ.gL
  refine zz_new (ci := 2) (fs := [.int 0, .null, .int 0, .int 0, .int 0, .int 0, .int 0, .int 0, .int 0]) (Cn := RX3) (T := TX3) (N := 9) C rfl rfl in_X3 tyX3 tyX3_ok q383 q384 q103 (by intro j hj; match j, hj with | 0, _ => rfl | 1, _ => rfl | 2, _ => rfl | 3, _ => rfl | 4, _ => rfl | 5, _ => rfl | 6, _ => rfl | 7, _ => rfl | 8, _ => rfl) rfl rfl dX1_make_0 (fun o0 n0 b0 => ?_)
  have hoD : o0 ≠ D.2 1000 3 := fun g => (zz_tDEF C).out (by rw [← g]; exact b0)
  refine zz_dup C dX1_make_3 rfl ?_
  first | refine zz_aload_n C dX1_make_4 rfl ?_ | refine zz_aload_nN C dX1_make_4 rfl ?_
  refine zz_get C rfl (zz_uf hQ.gq n0) rfl in_X1 5 rfl q183 (fun _ h => h) (by first | rfl | assumption) dX1_make_5 ?_
  refine zz_callF (x2 := ⟨"java/util/List", "size", "()I"⟩) C zy_J2_size (ct_J2_size (zz_uf hLx.1 n0)) rfl q567 q299 q301 nif_0 nid_0 (zz_uf hLx.1 n0) rfl rfl rfl rfl rfl rfl dX1_make_8 ⟨Nat.le_of_ble_eq_true rfl, Nat.le_of_ble_eq_true rfl⟩ (fun v hz hp => ?_)
  obtain ⟨rfl, ez⟩ := hp
  obtain rfl := ez.symm
  first | refine zz_aload_n C dX1_make_13 rfl ?_ | refine zz_aload_nN C dX1_make_13 rfl ?_
  refine zz_getN C rfl (zz_uf hS n0) rfl in_X3 1 rfl (nst_18 C) (fun _ h => h) (by first | rfl | assumption) dX1_make_14 ?_
  refine zz_iload_n C dX1_make_17 rfl ?_
  refine zz_iload_n C dX1_make_18 rfl ?_
  refine zz_callV C zy_X5_with (ct_X5_with (zz_uf hZ n0)) rfl q637 (zz_uf hZ n0) rfl rfl rfl rfl rfl rfl dX1_make_19 ⟨Nat.le_of_ble_eq_true rfl, Nat.le_of_ble_eq_true rfl⟩ (fun v hz hp => ?_)
  obtain ⟨oz, rfl, nz, bz, ez⟩ := hp
  obtain rfl := ez.symm
  first | refine zz_aload_n C dX1_make_22 rfl ?_ | refine zz_aload_nN C dX1_make_22 rfl ?_
  refine zz_getN C rfl (zz_uf (zz_uf hS n0) nz) rfl in_X3 2 rfl (nst_20 C) (fun _ h => h) (by first | rfl | assumption) dX1_make_23 ?_
  first | refine zz_aload_n C dX1_make_26 rfl ?_ | refine zz_aload_nN C dX1_make_26 rfl ?_
  refine zz_getN C rfl (zz_uf (zz_uf hS n0) nz) rfl in_X3 0 rfl (nst_16 C) (fun _ h => h) (by first | rfl | assumption) dX1_make_27 ?_
  first | refine zz_aload_n C dX1_make_30 rfl ?_ | refine zz_aload_nN C dX1_make_30 rfl ?_
  refine zz_getN C rfl (zz_uf (zz_uf hS n0) nz) rfl in_X3 5 rfl (nst_25 C) (fun _ h => h) (by first | rfl | assumption) dX1_make_31 ?_
  refine zz_callI C zy_X3_init_2 (ct_X3_init_2 (zz_uf zz_us nz)) rfl q643 rfl rfl rfl rfl rfl dX1_make_34 ⟨Nat.le_of_ble_eq_true rfl, Nat.le_of_ble_eq_true rfl⟩ (fun v hz hp => ?_)
  obtain ⟨rfl, ez⟩ := hp
  have hne : o0 ≠ oz := zz_nf zz_us nz
  rw [zz_c3 hne] at ez
  obtain rfl := ez.symm
  have hoz : h oz = none := by rw [zz_un (Ne.symm hne)] at nz; exact nz
  have n00 : zz_up h oz (sz_F (if v2 = 0 then v3 else x0) (if v2 = 1 then v3 else y0) (if v2 = 2 then v3 else z0)) o0 = none := (zz_un hne).trans n0
  have hQ0 := hQ.nwo (e := sz_F (if v2 = 0 then v3 else x0) (if v2 = 1 then v3 else y0) (if v2 = 2 then v3 else z0)) (t := (oz, 0)) hoz
  have hF0 : qu_F q h ow (zz_up h oz (sz_F (if v2 = 0 then v3 else x0) (if v2 = 1 then v3 else y0) (if v2 = 2 then v3 else z0))) (fun y => if y = oz then (oz, 0) else ow y) := qu_F.nwo hoz
  have hLx0 : qu_Lx D (zz_up h oz (sz_F (if v2 = 0 then v3 else x0) (if v2 = 1 then v3 else y0) (if v2 = 2 then v3 else z0))) (fun y => if y = oz then (oz, 0) else ow y) (q, 7) (ad 6) nb (fun b => ad (10 + b)) mcL ar cap f := hLx.fr (fun e he => zz_uf he hoz) (fun y e he hy => ⟨zz_uf he hoz, (if_neg (zz_nf he hoz)).trans hy⟩)
  have hS0 := zz_uf (e := sz_F (if v2 = 0 then v3 else x0) (if v2 = 1 then v3 else y0) (if v2 = 2 then v3 else z0)) hS hoz
  have hD0 : zz_up h oz (sz_F (if v2 = 0 then v3 else x0) (if v2 = 1 then v3 else y0) (if v2 = 2 then v3 else z0)) (D.2 1000 3) = none := (zz_un (fun g => (zz_tDEF C).out (by rw [g]; exact bz))).trans hD
  have hz0 : zz_up h oz (sz_F (if v2 = 0 then v3 else x0) (if v2 = 1 then v3 else y0) (if v2 = 2 then v3 else z0)) oz = some (sz_F (if v2 = 0 then v3 else x0) (if v2 = 1 then v3 else y0) (if v2 = 2 then v3 else z0)) := zz_us
  have ho0 : ((fun y => if y = oz then (oz, 0) else ow y : Nat → Nat × Nat) oz).1 = oz := by show (if oz = oz then (oz, 0) else ow oz : Nat × Nat).1 = oz; rw [if_pos rfl]
  refine zz_astore C dX1_make_37 (by decide) ?_
  first | refine zz_aload C dX1_make_39 rfl ?_ | refine zz_aloadN C dX1_make_39 rfl ?_
  refine zz_joinW (pcJ := 62) (cs' := 3) (ss' := 16) ((if (decide (w0 = 1) && decide (nI (qa_cnt (fun b => decide (a (12 + 10 * b + 4) = 1)) nb) < 4)) = true then 1 else 0)) ?_ ?_
  · rintro z62 rfl
    refine zz_putN C rfl zz_us rfl in_X3 tyX3 tyX3_ok nmX3 4 rfl (nst_23 C) (fun _ h => h) rfl (tyX3_ok 4 (by decide)) (by first | rfl | exact zz_narZ (by first | exact zz_b01 _ | assumption | decide)) rfl (Nat.le_of_ble_eq_true rfl) dX1_make_62 ?_
    rw [zz_upup]
    first | refine zz_aload C dX1_make_65 rfl ?_ | refine zz_aloadN C dX1_make_65 rfl ?_
    first | refine zz_aload_n C dX1_make_67 rfl ?_ | refine zz_aload_nN C dX1_make_67 rfl ?_
    refine zz_getN C rfl (zz_uf hS0 n00) rfl in_X3 8 rfl (nst_31 C) (fun _ h => h) (by first | rfl | assumption) dX1_make_68 ?_
    refine zz_putN C rfl zz_us rfl in_X3 tyX3 tyX3_ok nmX3 8 rfl (nst_31 C) (fun _ h => h) rfl (tyX3_ok 8 (by decide)) (by first | rfl | exact zz_narZ (by first | exact zz_b01 _ | assumption | decide)) (by first | exact zz_fitZ _ | rfl | exact zz_fit01 (by assumption)) (Nat.le_of_ble_eq_true rfl) dX1_make_71 ?_
    rw [zz_upup]
    first | refine zz_aload_n C dX1_make_74 rfl ?_ | refine zz_aload_nN C dX1_make_74 rfl ?_
    refine zz_get C rfl (zz_uf hQ0.gq n00) rfl in_X1 5 rfl q183 (fun _ h => h) (by first | rfl | assumption) dX1_make_75 ?_
    first | refine zz_aload C dX1_make_78 rfl ?_ | refine zz_aloadN C dX1_make_78 rfl ?_
    refine zz_callF (x2 := ⟨"java/util/List", "add", "(Ljava/lang/Object;)Z"⟩) C zy_J2_add (ct_J2_add (by omega) ((hLx0.nw n00).A (hQ0.nw n00).anyb) (zz_any_b zz_us) (zz_uf hLx0.1 n00)) rfl q438 q441 q443 nif_3 nid_3 (zz_uf hLx0.1 n00) rfl rfl rfl rfl rfl rfl dX1_make_80 ⟨Nat.le_of_ble_eq_true rfl, Nat.le_of_ble_eq_true rfl⟩ (fun v hz hp => ?_)
    obtain ⟨ar', cap', f', rfl, ez, hR⟩ := hp
    obtain rfl := ez.symm
    obtain ⟨ow2, hQ2, hF2⟩ := hQ0.addb (a' := ca_mk a nb (if v2 = 0 then v3 else x0) (if v2 = 1 then v3 else y0) (if v2 = 2 then v3 else z0) d0 (if (decide (w0 = 1) && decide (nI (qa_cnt (fun b => decide (a (12 + 10 * b + 4) = 1)) nb) < 4)) = true then 1 else 0) t0 c0 n9) hnb hno hD0 n00 hoD hLx0 hR (fun j hj h5 h6 => ca_mk_o h5 (by omega)) (fun j h1 h2 => ca_mk_o (by omega) (by omega)) (fun j hj => ca_mk_o (by omega) (by omega)) ca_mk_b (hz0.trans (congrArg some ca_mk_s)) ho0
    refine zz_gen (P := fun h' => qu_I D h' ow2 q (adU ad (10 + nb) o0) (adU sz nb oz) (ca_mk a nb (if v2 = 0 then v3 else x0) (if v2 = 1 then v3 else y0) (if v2 = 2 then v3 else z0) d0 (if (decide (w0 = 1) && decide (nI (qa_cnt (fun b => decide (a (12 + 10 * b + 4) = 1)) nb) < 4)) = true then 1 else 0) t0 c0 n9) (nb + 1) no ∧ qu_F q h ow h' ow2) ⟨hQ2, hF0.tr hF2⟩ (fun hz hP => ?_)
    obtain ⟨hQ2, hF2⟩ := hP
    refine zz_pop C dX1_make_85 rfl ?_
    first | refine zz_aload_n C dX1_make_86 rfl ?_ | refine zz_aload_nN C dX1_make_86 rfl ?_
    refine zz_dup C dX1_make_87 rfl ?_
    refine zz_get C rfl hQ2.gq rfl in_X1 10 rfl q193 (fun _ h => h) (by first | rfl | assumption) dX1_make_88 ?_
    first | refine zz_aload C dX1_make_91 rfl ?_ | refine zz_aloadN C dX1_make_91 rfl ?_
    refine zz_callV C zy_X3_weight (ct_X3_weight hQ2.gnb.1 hQ2.gnb.2) rfl q571 hQ2.gnb.1 rfl rfl rfl rfl rfl rfl dX1_make_93 ⟨Nat.le_of_ble_eq_true rfl, Nat.le_of_ble_eq_true rfl⟩ (fun v hz hp => ?_)
    obtain ⟨rfl, ez⟩ := hp
    obtain rfl := ez.symm
    rw [qa_w_e]
    refine zz_isub C dX1_make_96 ?_
    refine zz_put C rfl hQ2.gq rfl in_X1 tyX1 tyX1_ok nmX1 10 rfl q193 (fun _ h => h) rfl (tyX1_ok 10 (by decide)) (by first | rfl | exact zz_narZ (by first | exact zz_b01 _ | assumption | decide)) rfl (Nat.le_of_ble_eq_true rfl) dX1_make_97 ?_
    refine zz_gen (P := fun h' => qu_I D h' ow2 q (adU ad (10 + nb) o0) (adU sz nb oz) (upd (ca_mk a nb (if v2 = 0 then v3 else x0) (if v2 = 1 then v3 else y0) (if v2 = 2 then v3 else z0) d0 (if (decide (w0 = 1) && decide (nI (qa_cnt (fun b => decide (a (12 + 10 * b + 4) = 1)) nb) < 4)) = true then 1 else 0) t0 c0 n9) 9 ((ca_mk a nb (if v2 = 0 then v3 else x0) (if v2 = 1 then v3 else y0) (if v2 = 2 then v3 else z0) d0 (if (decide (w0 = 1) && decide (nI (qa_cnt (fun b => decide (a (12 + 10 * b + 4) = 1)) nb) < 4)) = true then 1 else 0) t0 c0 n9) 9 - qa_w (ca_mk a nb (if v2 = 0 then v3 else x0) (if v2 = 1 then v3 else y0) (if v2 = 2 then v3 else z0) d0 (if (decide (w0 = 1) && decide (nI (qa_cnt (fun b => decide (a (12 + 10 * b + 4) = 1)) nb) < 4)) = true then 1 else 0) t0 c0 n9) nb)) (nb + 1) no ∧ qu_F q h ow h' ow2) ⟨hQ2.wq9 (by omega) hno, hF2.tr (qu_F.up (by rw [hQ2.oq]))⟩ (fun hz hP => ?_)
    obtain ⟨hQ2, hF2⟩ := hP
    refine zz_vret C dX1_make_100 rfl rfl ?_
    exact ⟨ow2, _, _, rfl, hQ2, hF2⟩
  · intro J62
    first | refine zz_aload_n C dX1_make_41 rfl ?_ | refine zz_aload_nN C dX1_make_41 rfl ?_
    refine zz_getN C rfl (zz_uf hS0 n00) rfl in_X3 4 rfl (nst_23 C) (fun _ h => h) (by first | rfl | assumption) dX1_make_42 ?_
    refine zz_iconst (v := 1) C dX1_make_45 (by decide) ?_
    refine zz_icmp_ne (tgt := 61) C dX1_make_46 (by decide) (fun c46 => ?_) (fun c46 => ?_)
    · refine zz_iconst (v := 0) C dX1_make_61 (by decide) ?_
      exact zz_widen (by omega) (by omega) (J62 _ (by first | exact zz_ift (by rw [decide_eq_true c46, decide_eq_true (Int32.not_le.mp c54)]; rfl) | exact zz_iff (by rw [decide_eq_true c46, decide_eq_false (Int32.not_lt.mpr c54)]; rfl) | exact zz_iff (by rw [decide_eq_false c46]; rfl)))
    · first | refine zz_aload_n C dX1_make_49 rfl ?_ | refine zz_aload_nN C dX1_make_49 rfl ?_
      refine zz_callV C zy_X1_roofed (ct_X1_roofed (by omega) (hQ0.nw n00)) rfl q644 (zz_uf hQ0.gq n00) rfl rfl rfl rfl rfl rfl dX1_make_50 ⟨Nat.le_of_ble_eq_true rfl, Nat.le_of_ble_eq_true rfl⟩ (fun v hz hp => ?_)
      obtain ⟨rfl, ez⟩ := hp
      obtain rfl := ez.symm
      refine zz_iconst (v := 4) C dX1_make_53 (by decide) ?_
      refine zz_icmp_ge (tgt := 61) C dX1_make_54 (by decide) (fun c54 => ?_) (fun c54 => ?_)
      · refine zz_iconst (v := 0) C dX1_make_61 (by decide) ?_
        exact zz_widen (by omega) (by omega) (J62 _ (by first | exact zz_ift (by rw [decide_eq_true c46, decide_eq_true (Int32.not_le.mp c54)]; rfl) | exact zz_iff (by rw [decide_eq_true c46, decide_eq_false (Int32.not_lt.mpr c54)]; rfl) | exact zz_iff (by rw [decide_eq_false c46]; rfl)))
      · refine zz_iconst (v := 1) C dX1_make_57 (by decide) ?_
        refine zz_goto (tgt := 62) C dX1_make_58 (by decide) ?_
        exact zz_widen (by omega) (by omega) (J62 _ (by first | exact zz_ift (by rw [decide_eq_true c46, decide_eq_true (Int32.not_le.mp c54)]; rfl) | exact zz_iff (by rw [decide_eq_true c46, decide_eq_false (Int32.not_lt.mpr c54)]; rfl) | exact zz_iff (by rw [decide_eq_false c46]; rfl)))

