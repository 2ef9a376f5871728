/-! the quarry: cuts -/
/-- one of the blocks that a cut makes -/
def ca_m0 (A A2 : Nat → Int32) (n b : Nat) (w v2 v3 : Int32) : Nat → Int32 := ca_mk A n (if v2 = 0 then v3 else A2 (12 + 10 * b)) (if v2 = 1 then v3 else A2 (12 + 10 * b + 1)) (if v2 = 2 then v3 else A2 (12 + 10 * b + 2)) (A2 (12 + 10 * b + 3)) (if (decide (w = 1) && decide (nI (qa_cnt (fun b => decide (A (12 + 10 * b + 4) = 1)) n) < 4)) = true then 1 else 0) (A2 (12 + 10 * b + 5)) (A2 (12 + 10 * b + 6)) (nI b)
def ca_m (A A2 : Nat → Int32) (n b : Nat) (w v2 v3 : Int32) : Nat → Int32 := upd (ca_m0 A A2 n b w v2 v3) 9 (ca_m0 A A2 n b w v2 v3 9 - qa_w (ca_m0 A A2 n b w v2 v3) n)
def ca_c1 (a : Nat → Int32) (b : Nat) : Nat → Int32 := upd a (12 + 10 * b + 4) 4
def ca_c2 (a : Nat → Int32) (b : Nat) : Nat → Int32 := upd (ca_c1 a b) 9 (ca_c1 a b 9 + qa_w (ca_c1 a b) b)
def ca_cut (a : Nat → Int32) (nb b : Nat) (v2 v3 v4 : Int32) : Nat → Int32 := ca_m (ca_m (ca_c2 a b) (ca_c2 a b) nb b (a (12 + 10 * b + 4)) v2 v3) (ca_c2 a b) (nb + 1) b (a (12 + 10 * b + 4)) v2 v4
theorem ct_X1_cut {l : Launch} {D : va_G} {b0 : Nat} {h : zz_H} {q : Nat} {ow : Nat → Nat × Nat} {ad sz : Nat → Nat} {a : Nat → Int32} {nb no : Nat} (hwf : wfn a nb no) (hQ : qu_I D h ow q ad sz a nb no) {b k : Nat} {v2 v3 : Int32} (hb : b < nb) (hv2 : v2 = nI k) (hk : k < 3) (hn2 : nb + 2 ≤ 24)  : zz_Ct l D b0 yX1_cut cX1_cut 8 (some .int) 8 215 12 500 [.ref q, .ref (ad (10 + b)), .int v2, .int v3] h (fun v h' => ∃ (ow' : Nat → Nat × Nat) (ad' sz' : Nat → Nat), v = some (.int (nI nb)) ∧ qu_I D h' ow' q ad' sz' (ca_cut a nb b v2 v3 (qa_rest a b k v3)) (nb + 2) no ∧ qu_F q h ow h' ow') := by
  refine zz_Ct.of zy_X1_cut.1 rfl ?_
  intro p e s m below meth c C
  have hnb := hwf.1
  have hno := hwf.2.1
  obtain ⟨fs, hfs, es⟩ := hQ.gs
  first | refine zz_aload_n C dX1_cut_0 rfl ?_ | refine zz_aload_nN C dX1_cut_0 rfl ?_
  refine zz_getN C rfl (hQ.gb hb) rfl in_X3 1 rfl (nst_18 C) (fun _ h => h) (by first | rfl | assumption) dX1_cut_1 ?_
  refine zz_iload_n C dX1_cut_4 rfl ?_
  refine zz_callV C zy_X5_of (ct_X5_of (hQ.gz hb)) rfl q625 (hQ.gz hb) rfl rfl rfl rfl rfl rfl dX1_cut_5 ⟨Nat.le_of_ble_eq_true rfl, Nat.le_of_ble_eq_true rfl⟩ (fun v hz hp => ?_)
  obtain ⟨rfl, ez⟩ := hp
  obtain rfl := ez.symm
  rw [show sz_o (a (12 + 10 * b)) (a (12 + 10 * b + 1)) (a (12 + 10 * b + 2)) v2 = a (12 + 10 * b + k) from by rw [hv2]; exact sz_o_f (fun k => a (12 + 10 * b + k)) k hk]
  refine zz_iload_n C dX1_cut_8 rfl ?_
  refine zz_isub C dX1_cut_9 ?_
  first | refine zz_aload_n C dX1_cut_10 rfl ?_ | refine zz_aload_nN C dX1_cut_10 rfl ?_
  refine zz_get C rfl hQ.gq rfl in_X1 0 rfl q173 (fun _ h => h) (by first | rfl | assumption) dX1_cut_11 ?_
  refine zz_iconst (v := nI 0) C dX1_cut_14 (by decide) ?_
  refine zz_iald C hfs rfl (by omega) (by omega) dX1_cut_15 ?_
  rw [es 0 (by decide)]
  refine zz_isub C dX1_cut_16 ?_
  rw [show a (12 + 10 * b + k) - v3 - a 0 = qa_rest a b k v3 from rfl]
  refine zz_istore C dX1_cut_17 (by decide) ?_
  first | refine zz_aload_n C dX1_cut_19 rfl ?_ | refine zz_aload_nN C dX1_cut_19 rfl ?_
  refine zz_getN C rfl (hQ.gb hb) rfl in_X3 4 rfl (nst_23 C) (fun _ h => h) (by first | rfl | assumption) dX1_cut_20 ?_
  refine zz_istore C dX1_cut_23 (by decide) ?_
  first | refine zz_aload_n C dX1_cut_25 rfl ?_ | refine zz_aload_nN C dX1_cut_25 rfl ?_
  refine zz_iconst (v := 4) C dX1_cut_26 (by decide) ?_
  refine zz_putN C rfl (hQ.gb hb) rfl in_X3 tyX3 tyX3_ok nmX3 4 rfl (nst_23 C) (fun _ h => h) rfl (tyX3_ok 4 (by decide)) (by first | rfl | exact zz_narZ (by first | exact zz_b01 _ | assumption | decide)) rfl (Nat.le_of_ble_eq_true rfl) dX1_cut_27 ?_
  refine zz_gen (P := fun h' => qu_I D h' ow q ad sz (ca_c1 a b) nb no ∧ qu_F q h ow h' ow) ⟨hQ.wb4 hb hnb, qu_F.up (by rw [hQ.owb hb])⟩ (fun hz hP => ?_)
  obtain ⟨hQ, hF⟩ := hP
  first | refine zz_aload_n C dX1_cut_30 rfl ?_ | refine zz_aload_nN C dX1_cut_30 rfl ?_
  refine zz_dup C dX1_cut_31 rfl ?_
  refine zz_get C rfl hQ.gq rfl in_X1 10 rfl q193 (fun _ h => h) (by first | rfl | assumption) dX1_cut_32 ?_
  first | refine zz_aload_n C dX1_cut_35 rfl ?_ | refine zz_aload_nN C dX1_cut_35 rfl ?_
  refine zz_callV C zy_X3_weight (ct_X3_weight (hQ.gb hb) (hQ.gz hb)) rfl q571 (hQ.gb hb) rfl rfl rfl rfl rfl rfl dX1_cut_36 ⟨Nat.le_of_ble_eq_true rfl, Nat.le_of_ble_eq_true rfl⟩ (fun v hz hp => ?_)
  obtain ⟨rfl, ez⟩ := hp
  obtain rfl := ez.symm
  rw [qa_w_e]
  refine zz_iadd C dX1_cut_39 ?_
  refine zz_put C rfl hQ.gq rfl in_X1 tyX1 tyX1_ok nmX1 10 rfl q193 (fun _ h => h) rfl (tyX1_ok 10 (by decide)) (by first | rfl | exact zz_narZ (by first | exact zz_b01 _ | assumption | decide)) rfl (Nat.le_of_ble_eq_true rfl) dX1_cut_40 ?_
  refine zz_gen (P := fun h' => qu_I D h' ow q ad sz (ca_c2 a b) nb no ∧ qu_F q h ow h' ow) ⟨hQ.wq9 hnb hno, hF.tr (qu_F.up (by rw [hQ.oq]))⟩ (fun hz hP => ?_)
  obtain ⟨hQ, hF⟩ := hP
  obtain ⟨mcL, ar, cap, f, hLx⟩ := hQ.gL
  first | refine zz_aload_n C dX1_cut_43 rfl ?_ | refine zz_aload_nN C dX1_cut_43 rfl ?_
  refine zz_get C rfl hQ.gq rfl in_X1 5 rfl q183 (fun _ h => h) (by first | rfl | assumption) dX1_cut_44 ?_
  refine zz_callF (x2 := ⟨"java/util/List", "size", "()I"⟩) C zy_J2_size (ct_J2_size hLx.1) rfl q567 q299 q301 nif_0 nid_0 hLx.1 rfl rfl rfl rfl rfl rfl dX1_cut_47 ⟨Nat.le_of_ble_eq_true rfl, Nat.le_of_ble_eq_true rfl⟩ (fun v hz hp => ?_)
  obtain ⟨rfl, ez⟩ := hp
  obtain rfl := ez.symm
  refine zz_istore C dX1_cut_52 (by decide) ?_
  refine zz_new (ci := 2) (fs := [.int 0, .null, .int 0, .int 0, .int 0, .int 0, .int 0, .int 0, .int 0]) (Cn := RX3) (T := TX3) (N := 9) C rfl rfl in_X3 tyX3 tyX3_ok q383 q384 q103 (by intro j hj; match j, hj with | 0, _ => rfl | 1, _ => rfl | 2, _ => rfl | 3, _ => rfl | 4, _ => rfl | 5, _ => rfl | 6, _ => rfl | 7, _ => rfl | 8, _ => rfl) rfl rfl dX1_cut_54 (fun o54 n54 b54 => ?_)
  refine zz_dup C dX1_cut_57 rfl ?_
  first | refine zz_aload_n C dX1_cut_58 rfl ?_ | refine zz_aload_nN C dX1_cut_58 rfl ?_
  refine zz_callI C zy_X3_init (ct_X3_init (show (ca_c2 a b) (12 + 10 * b + 6) = 0 ∨ (ca_c2 a b) (12 + 10 * b + 6) = 1 from by unfold ca_c2 ca_c1; rw [up_n (by omega), up_n (by omega)]; exact hwf.c6 hb) zz_us (zz_uf (hQ.gb hb) n54) (zz_nf (hQ.gb hb) n54)) rfl q385 rfl rfl rfl rfl rfl dX1_cut_59 ⟨Nat.le_of_ble_eq_true rfl, Nat.le_of_ble_eq_true rfl⟩ (fun v hz hp => ?_)
  obtain ⟨rfl, ez⟩ := hp
  rw [zz_upup] at ez
  obtain rfl := ez.symm
  refine zz_astore C dX1_cut_62 (by decide) ?_
  first | refine zz_aload C dX1_cut_64 rfl ?_ | refine zz_aloadN C dX1_cut_64 rfl ?_
  refine zz_iload C dX1_cut_66 rfl ?_
  refine zz_putN C rfl zz_us rfl in_X3 tyX3 tyX3_ok nmX3 4 rfl (nst_23 C) (fun _ h => h) rfl (tyX3_ok 4 (by decide)) (by first | rfl | exact zz_narZ (by first | exact zz_b01 _ | assumption | decide)) rfl (Nat.le_of_ble_eq_true rfl) dX1_cut_68 ?_
  rw [zz_upup]
  have hoq : o54 ≠ q := fun g => by rw [g, hQ.gq] at n54; cases n54
  refine zz_gen (P := fun h' => qu_I D h' (fun y => if y = o54 then (o54, 98) else ow y) q ad sz (ca_c2 a b) nb no ∧ qu_F q h ow h' (fun y => if y = o54 then (o54, 98) else ow y) ∧ h' o54 = some (bl_G (nI b) (sz b) ((ca_c2 a b) (12 + 10 * b + 3)) ((ca_c2 a b) (12 + 10 * b + 9)) (a (12 + 10 * b + 4)) ((ca_c2 a b) (12 + 10 * b + 5)) ((ca_c2 a b) (12 + 10 * b + 7)) ((ca_c2 a b) (12 + 10 * b + 8)) ((ca_c2 a b) (12 + 10 * b + 6)))) ⟨hQ.nwo n54, hF.tr (qu_F.nwo n54), zz_us⟩ (fun hz hP => ?_)
  obtain ⟨hQ, hF, hS⟩ := hP
  first | refine zz_aload_n C dX1_cut_71 rfl ?_ | refine zz_aload_nN C dX1_cut_71 rfl ?_
  first | refine zz_aload C dX1_cut_72 rfl ?_ | refine zz_aloadN C dX1_cut_72 rfl ?_
  refine zz_iload_n C dX1_cut_74 rfl ?_
  refine zz_iload_n C dX1_cut_75 rfl ?_
  refine zz_callV C zy_X1_make (ct_X1_make (by omega) hno hQ (show (ca_c2 a b) (12 + 10 * b + 6) = 0 ∨ (ca_c2 a b) (12 + 10 * b + 6) = 1 from by unfold ca_c2 ca_c1; rw [up_n (by omega), up_n (by omega)]; exact hwf.c6 hb) hS (hQ.gz hb)) rfl q633 hQ.gq rfl rfl rfl rfl rfl rfl dX1_cut_76 ⟨Nat.le_of_ble_eq_true rfl, Nat.le_of_ble_eq_true rfl⟩ (fun v hz hp => ?_)
  obtain ⟨ow1, ad1, sz1, rfl, hQ1, hF1⟩ := hp
  have hS1 := (hF1 _ _ hS (by show (if o54 = o54 then (o54, 98) else ow o54 : Nat × Nat).1 ≠ q; rw [if_pos rfl]; exact hoq)).1
  have hZ1 := (hF1 _ _ (hQ.gz hb) (by rw [hQ.ozb hb]; exact zz_cc (hQ.gz hb) hQ.gq (by decide))).1
  first | refine zz_aload_n C dX1_cut_79 rfl ?_ | refine zz_aload_nN C dX1_cut_79 rfl ?_
  first | refine zz_aload C dX1_cut_80 rfl ?_ | refine zz_aloadN C dX1_cut_80 rfl ?_
  refine zz_iload_n C dX1_cut_82 rfl ?_
  refine zz_iload C dX1_cut_83 rfl ?_
  refine zz_callV C zy_X1_make (ct_X1_make (by omega) hno hQ1 (show (ca_c2 a b) (12 + 10 * b + 6) = 0 ∨ (ca_c2 a b) (12 + 10 * b + 6) = 1 from by unfold ca_c2 ca_c1; rw [up_n (by omega), up_n (by omega)]; exact hwf.c6 hb) hS1 hZ1) rfl q633 hQ1.gq rfl rfl rfl rfl rfl rfl dX1_cut_85 ⟨Nat.le_of_ble_eq_true rfl, Nat.le_of_ble_eq_true rfl⟩ (fun v hz hp => ?_)
  obtain ⟨ow2, ad2, sz2, rfl, hQ2, hF2⟩ := hp
  refine zz_iload C dX1_cut_88 rfl ?_
  refine zz_iret C dX1_cut_90 rfl rfl ?_
  exact ⟨ow2, ad2, sz2, rfl, hQ2, (hF.tr hF1).tr hF2⟩

