/-! the quarry, copied -/
/-- a copy under way: t of the lorries' arrays are there -/
def cp_A (a : Nat → Int32) (t : Nat) : Nat → Int32 := fun j => if j < 4 ∨ (312 ≤ j ∧ (j - 312) % 4 < t) then a j else tw_il 3 j
/-- all arrays are there, no numbers yet -/
def cp_S (a : Nat → Int32) : Nat → Int32 := fun j => if 4 ≤ j ∧ j < 12 then 0 else a j
theorem tw_il_0 {j : Nat} (h4 : 4 ≤ j) (hj : j < 312) : tw_il 3 j = 0 := by
  unfold tw_il tw_il tw_il tw_il tw_i0
  rw [up_n (by omega), up_n (by omega), up_n (by omega), up_n (by omega), up_n (by omega), up_n (by omega), up_n (by omega), up_n (by omega), up_n (by omega), up_n (by omega), up_n (by omega), up_n (by omega), up_n (by omega)]
section QI
variable {D : va_G} {h : zz_H} {ow : Nat → Nat × Nat} {q : Nat} {ad sz : Nat → Nat} {a : Nat → Int32} {nb no : Nat}
theorem qu_I.cps (H : qu_I D h ow q ad sz (tw_il 3) 0 0) {o : Nat} {f : Nat → Int32} (ho : h o = none) (hf : ∀ k : Nat, k < 4 → f k = a k) : qu_I D (zz_up (zz_up h o (.inl (D.1 100, 4, .inl f))) q (qu_C (adU ad 1 o) (tw_il 3))) (fun y => if y = o then (q, 1) else ow y) q (adU ad 1 o) sz (cp_A a 0) 0 0 := by
  refine H.ra (by omega) (by omega) (by decide) (by decide) ho rfl (fun k hk => ?_) (fun j hj => ?_) (fun g => absurd rfl g) (fun l k hk _ => ?_)
  · rw [if_pos rfl, hf k hk]
    exact (if_pos (Or.inl hk)).symm
  · exact if_neg (by omega)
  · exact if_neg (by omega)
theorem cp_A_C {ad : Nat → Nat} {t : Nat} : qu_C ad (cp_A a t) = qu_C ad (tw_il 3) := qc_cg (fun k h1 h2 _ _ => if_neg (by omega))
theorem qu_I.cpl {t : Nat} (H : qu_I D h ow q ad sz (cp_A a t) 0 0) (ht : t < 4) {o : Nat} {f : Nat → Int32} (ho : h o = none) (hf : ∀ k : Nat, k < 3 → f k = a (312 + 4 * k + t)) : qu_I D (zz_up (zz_up h o (.inl (D.1 100, 3, .inl f))) q (qu_C (adU ad (2 + t) o) (cp_A a t))) (fun y => if y = o then (q, 2 + t) else ow y) q (adU ad (2 + t) o) sz (cp_A a (t + 1)) 0 0 := by
  refine H.ra (by omega) (by omega) (by omega) (by omega) ho (by rw [if_neg (by omega)]) (fun k hk => ?_) (fun j hj => ?_) (fun g j hj => ?_) (fun l k hk g => ?_)
  · rw [if_neg (by omega), hf k hk, show 2 + t - 2 = t by omega]
    exact (if_pos (Or.inr ⟨by omega, by omega⟩)).symm
  · unfold cp_A
    rw [if_neg (by omega), if_neg (by omega)]
  · unfold cp_A
    rw [if_pos (Or.inl hj), if_pos (Or.inl hj)]
  · unfold cp_A
    by_cases hk2 : k < t
    · rw [if_pos (Or.inr ⟨by omega, by omega⟩), if_pos (Or.inr ⟨by omega, by omega⟩)]
    · rw [if_neg (by omega), if_neg (by omega)]
theorem qu_I.cpz (H : qu_I D h ow q ad sz (cp_A a 4) 0 0) : qu_I D h ow q ad sz (cp_S a) 0 0 := H.cg (fun j hj _ _ => by
  unfold cp_S cp_A
  by_cases h4 : j < 4
  · rw [if_neg (by omega), if_pos (Or.inl h4)]
  · rw [if_pos ⟨by omega, hj⟩, if_neg (by omega), tw_il_0 (by omega) (by omega)]) (fun b k hb _ => by omega) (fun o k ho _ => by omega) (fun j h1 h2 => by
  unfold cp_S cp_A
  rw [if_neg (by omega), if_pos (Or.inr ⟨h1, by omega⟩)])
theorem cp_Sb {b s : Nat} : bl_F a b s = bl_F (cp_S a) b s := (bl_cg (fun k _ _ => if_neg (by omega))).symm
theorem cp_Ss {b : Nat} : bs_F a b = bs_F (cp_S a) b := (bs_cg (fun k _ => if_neg (by omega))).symm
theorem cp_So {b s : Nat} : or_F a b s = or_F (cp_S a) b s := (or_cg (fun k _ _ => if_neg (by omega))).symm
theorem cp_Sz {b : Nat} : os_F a b = os_F (cp_S a) b := (os_cg (fun k _ => if_neg (by omega))).symm
theorem cp_SC {ad : Nat → Nat} : qu_C ad (cp_S a) = qu_F0 ad 0 0 0 0 0 0 := rfl
theorem qu_I.cpe (H : qu_I D h ow q ad sz (upd (upd (upd (upd (upd (upd (cp_S a) 7 (a 7)) 4 (a 4)) 8 (a 8)) 9 (a 9)) 10 (a 10)) 11 (a 11)) nb no) (hnb : nb ≤ 24) (hno : no ≤ 10) : qu_I D h ow q ad sz a nb no := H.cg (fun j hj h5 h6 => by
  by_cases h11 : j = 11
  · rw [h11, up_s]
  by_cases h10 : j = 10
  · rw [h10, up_n (by decide), up_s]
  by_cases h9 : j = 9
  · rw [h9, up_n (by decide), up_n (by decide), up_s]
  by_cases h8 : j = 8
  · rw [h8, up_n (by decide), up_n (by decide), up_n (by decide), up_s]
  by_cases h4 : j = 4
  · rw [h4, up_n (by decide), up_n (by decide), up_n (by decide), up_n (by decide), up_s]
  by_cases h7 : j = 7
  · rw [h7, up_n (by decide), up_n (by decide), up_n (by decide), up_n (by decide), up_n (by decide), up_s]
  rw [up_n h11, up_n h10, up_n h9, up_n h8, up_n h4, up_n h7]
  exact (if_neg (by omega)).symm) (fun b k hb hk => by
  rw [up_n (by omega), up_n (by omega), up_n (by omega), up_n (by omega), up_n (by omega), up_n (by omega)]
  exact (if_neg (by omega)).symm) (fun o k ho hk => by
  rw [up_n (by omega), up_n (by omega), up_n (by omega), up_n (by omega), up_n (by omega), up_n (by omega)]
  exact (if_neg (by omega)).symm) (fun j h1 h2 => by
  rw [up_n (by omega), up_n (by omega), up_n (by omega), up_n (by omega), up_n (by omega), up_n (by omega)]
  exact (if_neg (by omega)).symm)
end QI
theorem ct_X1_copy {l : Launch} {D : va_G} {b0 : Nat} {h : zz_H} {q : Nat} {ow : Nat → Nat × Nat} {ad sz : Nat → Nat} {a : Nat → Int32} {nb no : Nat} (hwf : wfn a nb no) (hQ : qu_I D h ow q ad sz a nb no)  : zz_Ct l D b0 yX1_copy cX1_copy 4 (some (.object "QuarryOrders$Quarry")) 7 191 90 6000 [.ref q] h (fun v h' => ∃ (r : Nat) (ow' : Nat → Nat × Nat) (ad' sz' : Nat → Nat), v = some (.ref r) ∧ h r = none ∧ b0 ≤ r ∧ qu_I D h' ow' r ad' sz' a nb no ∧ cp_F h ow h' ow') := by
  refine zz_Ct.of zy_X1_copy.1 rfl ?_
  intro p e s m below meth c C
  have hnb := hwf.1
  have hno := hwf.2.1
  obtain ⟨mcL, ar, cap, f, hLx⟩ := hQ.gL
  obtain ⟨mcO, arO, capO, fO, hOx⟩ := hQ.gO
  have helb : ∀ i : Nat, i < nb → f i = some (ad (10 + i)) := hLx.2.2.2.2.2
  have helo : ∀ i : Nat, i < no → fO i = some (ad (40 + i)) := hOx.2.2.2.2.2
  have hcb : cap ≤ 100 := hLx.2.2.2.1
  have hco : capO ≤ 100 := hOx.2.2.2.1
  have hTbb : ∀ (hc : zz_H) (owc : Nat → Nat × Nat), cp_F h ow hc owc → ∀ {i : Nat}, i < nb → hc ar = some (li_T D cap f) := by
    intro hc owc hF i hi
    obtain ⟨g1, g2, g3, g4, g5, g6⟩ := hLx
    rcases g2 with ⟨k1, k2, k3⟩ | ⟨k1, k2⟩
    · exact hF.A hQ k1 k3
    · omega
  have hTbo : ∀ (hc : zz_H) (owc : Nat → Nat × Nat), cp_F h ow hc owc → ∀ {i : Nat}, i < no → hc arO = some (li_T D capO fO) := by
    intro hc owc hF i hi
    obtain ⟨g1, g2, g3, g4, g5, g6⟩ := hOx
    rcases g2 with ⟨k1, k2, k3⟩ | ⟨k1, k2⟩
    · exact hF.A hQ k1 k3
    · omega
  refine zz_new (ci := 1) (fs := [.null, .null, .null, .null, .null, .null, .null, .int 0, .int 0, .int 0, .int 0, .int 0, .int 0]) (Cn := RX1) (T := TX1) (N := 13) C rfl rfl in_X1 tyX1 tyX1_ok q330 q126 q90 (by intro j hj; match j, hj with | 0, _ => rfl | 1, _ => rfl | 2, _ => rfl | 3, _ => rfl | 4, _ => rfl | 5, _ => rfl | 6, _ => rfl | 7, _ => rfl | 8, _ => rfl | 9, _ => rfl | 10, _ => rfl | 11, _ => rfl | 12, _ => rfl) (Nat.ble_eq.mpr (by show (_ : Nat) ≤ 90; omega)) (Nat.ble_eq.mpr (by show (_ : Nat) ≤ 6000; omega)) dX1_copy_0 (fun o0 n0 b0 => ?_)
  refine zz_dup C dX1_copy_3 rfl ?_
  refine zz_callI C zy_X1_init (ct_X1_init ow zz_us) rfl q331 rfl rfl rfl rfl rfl dX1_copy_4 ⟨by show (_ : Nat) ≤ 90; omega, by show (_ : Nat) ≤ 6000; omega⟩ (fun v hz hp => ?_)
  obtain ⟨ow1, ad1, rfl, hR, hF1⟩ := hp
  have hF : cp_F h ow hz ow1 := fun y e he hr => hF1 y e (zz_uf he n0) (zz_nf he n0)
  have hS := hQ.cp hF
  refine zz_astore_n C dX1_copy_7 (by decide) ?_
  obtain ⟨fs, hfs, es⟩ := hS.gs
  first | refine zz_aload_n C dX1_copy_8 rfl ?_ | refine zz_aload_nN C dX1_copy_8 rfl ?_
  first | refine zz_aload_n C dX1_copy_9 rfl ?_ | refine zz_aload_nN C dX1_copy_9 rfl ?_
  refine zz_get C rfl hS.gq rfl in_X1 0 rfl q173 (fun _ h => h) (by first | rfl | assumption) dX1_copy_10 ?_
  refine zz_cloneI C rfl q136 hfs rfl rfl rfl rfl (by show (_ : Nat) ≤ 6000; omega) dX1_copy_13 (fun o13 n13 b13 => ?_)
  refine zz_castA C rfl zz_us q142 (zz_nmI C) dX1_copy_16 ?_
  refine zz_put C rfl (zz_uf hR.gq n13) rfl in_X1 tyX1 tyX1_ok nmX1 0 rfl q173 (fun _ h => h) rfl (tyX1_ok 0 (by decide)) (by first | rfl | exact zz_narZ (by first | exact zz_b01 _ | assumption | decide)) rfl (Nat.le_of_ble_eq_true rfl) dX1_copy_19 ?_
  refine zz_gen (P := fun h' => ∃ (adN : Nat → Nat) (owN : Nat → Nat × Nat), qu_I D h' owN o0 adN (fun _ => 0) (cp_A a 0) 0 0 ∧ cp_F h ow h' owN) ⟨_, _, hR.cps n13 es, (hF.nw n13).un (fun y e he hr => fun g => by rw [g, n0] at he; cases he)⟩ (fun hz hP => ?_)
  obtain ⟨ad1, ow1, hR, hF⟩ := hP
  have hS := hQ.cp hF
  obtain ⟨fs, hfs, es⟩ := hS.gl 0 (by decide)
  first | refine zz_aload_n C dX1_copy_22 rfl ?_ | refine zz_aload_nN C dX1_copy_22 rfl ?_
  first | refine zz_aload_n C dX1_copy_23 rfl ?_ | refine zz_aload_nN C dX1_copy_23 rfl ?_
  refine zz_get C rfl hS.gq rfl in_X1 1 rfl q175 (fun _ h => h) (by first | rfl | assumption) dX1_copy_24 ?_
  refine zz_cloneI C rfl q136 hfs rfl rfl rfl rfl (by show (_ : Nat) ≤ 6000; omega) dX1_copy_27 (fun o27 n27 b27 => ?_)
  refine zz_castA C rfl zz_us q142 (zz_nmI C) dX1_copy_30 ?_
  refine zz_put C rfl (zz_uf hR.gq n27) rfl in_X1 tyX1 tyX1_ok nmX1 1 rfl q175 (fun _ h => h) rfl (tyX1_ok 1 (by decide)) (by first | rfl | exact zz_narZ (by first | exact zz_b01 _ | assumption | decide)) rfl (Nat.le_of_ble_eq_true rfl) dX1_copy_33 ?_
  refine zz_gen (P := fun h' => ∃ (adN : Nat → Nat) (owN : Nat → Nat × Nat), qu_I D h' owN o0 adN (fun _ => 0) (cp_A a 1) 0 0 ∧ cp_F h ow h' owN) ⟨_, _, hR.cpl (t := 0) (by decide) n27 es, (hF.nw n27).un (fun y e he hr => fun g => by rw [g, n0] at he; cases he)⟩ (fun hz hP => ?_)
  obtain ⟨ad1, ow1, hR, hF⟩ := hP
  have hS := hQ.cp hF
  obtain ⟨fs, hfs, es⟩ := hS.gl 1 (by decide)
  first | refine zz_aload_n C dX1_copy_36 rfl ?_ | refine zz_aload_nN C dX1_copy_36 rfl ?_
  first | refine zz_aload_n C dX1_copy_37 rfl ?_ | refine zz_aload_nN C dX1_copy_37 rfl ?_
  refine zz_get C rfl hS.gq rfl in_X1 2 rfl q177 (fun _ h => h) (by first | rfl | assumption) dX1_copy_38 ?_
  refine zz_cloneI C rfl q136 hfs rfl rfl rfl rfl (by show (_ : Nat) ≤ 6000; omega) dX1_copy_41 (fun o41 n41 b41 => ?_)
  refine zz_castA C rfl zz_us q142 (zz_nmI C) dX1_copy_44 ?_
  refine zz_put C rfl (zz_uf hR.gq n41) rfl in_X1 tyX1 tyX1_ok nmX1 2 rfl q177 (fun _ h => h) rfl (tyX1_ok 2 (by decide)) (by first | rfl | exact zz_narZ (by first | exact zz_b01 _ | assumption | decide)) rfl (Nat.le_of_ble_eq_true rfl) dX1_copy_47 ?_
  refine zz_gen (P := fun h' => ∃ (adN : Nat → Nat) (owN : Nat → Nat × Nat), qu_I D h' owN o0 adN (fun _ => 0) (cp_A a 2) 0 0 ∧ cp_F h ow h' owN) ⟨_, _, hR.cpl (t := 1) (by decide) n41 es, (hF.nw n41).un (fun y e he hr => fun g => by rw [g, n0] at he; cases he)⟩ (fun hz hP => ?_)
  obtain ⟨ad1, ow1, hR, hF⟩ := hP
  have hS := hQ.cp hF
  obtain ⟨fs, hfs, es⟩ := hS.gl 2 (by decide)
  first | refine zz_aload_n C dX1_copy_50 rfl ?_ | refine zz_aload_nN C dX1_copy_50 rfl ?_
  first | refine zz_aload_n C dX1_copy_51 rfl ?_ | refine zz_aload_nN C dX1_copy_51 rfl ?_
  refine zz_get C rfl hS.gq rfl in_X1 3 rfl q179 (fun _ h => h) (by first | rfl | assumption) dX1_copy_52 ?_
  refine zz_cloneI C rfl q136 hfs rfl rfl rfl rfl (by show (_ : Nat) ≤ 6000; omega) dX1_copy_55 (fun o55 n55 b55 => ?_)
  refine zz_castA C rfl zz_us q142 (zz_nmI C) dX1_copy_58 ?_
  refine zz_put C rfl (zz_uf hR.gq n55) rfl in_X1 tyX1 tyX1_ok nmX1 3 rfl q179 (fun _ h => h) rfl (tyX1_ok 3 (by decide)) (by first | rfl | exact zz_narZ (by first | exact zz_b01 _ | assumption | decide)) rfl (Nat.le_of_ble_eq_true rfl) dX1_copy_61 ?_
  refine zz_gen (P := fun h' => ∃ (adN : Nat → Nat) (owN : Nat → Nat × Nat), qu_I D h' owN o0 adN (fun _ => 0) (cp_A a 3) 0 0 ∧ cp_F h ow h' owN) ⟨_, _, hR.cpl (t := 2) (by decide) n55 es, (hF.nw n55).un (fun y e he hr => fun g => by rw [g, n0] at he; cases he)⟩ (fun hz hP => ?_)
  obtain ⟨ad1, ow1, hR, hF⟩ := hP
  have hS := hQ.cp hF
  obtain ⟨fs, hfs, es⟩ := hS.gl 3 (by decide)
  first | refine zz_aload_n C dX1_copy_64 rfl ?_ | refine zz_aload_nN C dX1_copy_64 rfl ?_
  first | refine zz_aload_n C dX1_copy_65 rfl ?_ | refine zz_aload_nN C dX1_copy_65 rfl ?_
  refine zz_get C rfl hS.gq rfl in_X1 4 rfl q181 (fun _ h => h) (by first | rfl | assumption) dX1_copy_66 ?_
  refine zz_cloneI C rfl q136 hfs rfl rfl rfl rfl (by show (_ : Nat) ≤ 6000; omega) dX1_copy_69 (fun o69 n69 b69 => ?_)
  refine zz_castA C rfl zz_us q142 (zz_nmI C) dX1_copy_72 ?_
  refine zz_put C rfl (zz_uf hR.gq n69) rfl in_X1 tyX1 tyX1_ok nmX1 4 rfl q181 (fun _ h => h) rfl (tyX1_ok 4 (by decide)) (by first | rfl | exact zz_narZ (by first | exact zz_b01 _ | assumption | decide)) rfl (Nat.le_of_ble_eq_true rfl) dX1_copy_75 ?_
  refine zz_gen (P := fun h' => ∃ (adN : Nat → Nat) (owN : Nat → Nat × Nat), qu_I D h' owN o0 adN (fun _ => 0) (cp_A a 4) 0 0 ∧ cp_F h ow h' owN) ⟨_, _, hR.cpl (t := 3) (by decide) n69 es, (hF.nw n69).un (fun y e he hr => fun g => by rw [g, n0] at he; cases he)⟩ (fun hz hP => ?_)
  obtain ⟨ad1, ow1, hR, hF⟩ := hP
  have hS := hQ.cp hF
  have hR := hR.cpz
  first | refine zz_aload_n C dX1_copy_78 rfl ?_ | refine zz_aload_nN C dX1_copy_78 rfl ?_
  refine zz_get C rfl hS.gq rfl in_X1 5 rfl q183 (fun _ h => h) (by first | rfl | assumption) dX1_copy_79 ?_
  refine zz_callF (x2 := ⟨"java/util/List", "iterator", "()Ljava/util/Iterator;"⟩) C zy_J2_iterator (ct_J2_iterator (hF.A hQ hLx.1 (hQ.owa (i := 6) (by decide) (by decide)))) rfl q333 q336 q338 nif_2 nid_2 (hF.A hQ hLx.1 (hQ.owa (i := 6) (by decide) (by decide))) rfl rfl rfl rfl rfl rfl dX1_copy_82 ⟨by show (_ : Nat) ≤ 90; omega, by show (_ : Nat) ≤ 6000; omega⟩ (fun v hz hp => ?_)
  obtain ⟨it, rfl, hit, hitb, ez⟩ := hp
  obtain rfl := ez.symm
  have hni := hF.ni hit
  have hRi := hR.nwo (e := it_F 0 (-1) mcL (ad 6)) (t := (it, 98)) hit
  have hFi := hF.nw (e := it_F 0 (-1) mcL (ad 6)) (t := (it, 98)) hit
  have hir : ((fun y => if y = it then (it, 98) else ow1 y : Nat → Nat × Nat) it).1 ≠ o0 := by
    show (if it = it then (it, 98) else ow1 it : Nat × Nat).1 ≠ o0
    rw [if_pos rfl]
    exact fun g => by rw [show it = o0 from g, hR.gq] at hit; cases hit
  refine zz_astore_n C dX1_copy_87 (by decide) ?_
  have L88 : ∀ (n : Nat) (i : Nat) (lr : Int32) (hc : zz_H) (owc : Nat → Nat × Nat) (adr szr : Nat → Nat), i ≤ nb → nb + 1 ≤ i + n → qu_I D hc owc o0 adr szr (cp_S a) i 0 → cp_F h ow hc owc → hc it = some (it_F i lr mcL (ad 6)) → (∀ y e', h y = some e' → h (ow y).1 ≠ none → y ≠ it) → (owc it).1 ≠ o0 → zz_V D b0 4 p l e ({ frames := 7, cells := 90, slots := 6000, locals := 191 } : Jvm.Room) s m ([.ref q] : List Value).toArray below meth c (MQ below (zz_Q D b0 (fun v h' => ∃ (r : Nat) (ow' : Nat → Nat × Nat) (ad' sz' : Nat → Nat), v = some (.ref r) ∧ h r = none ∧ b0 ≤ r ∧ qu_I D h' ow' r ad' sz' a nb no ∧ cp_F h ow h' ow')) ([.ref q] : List Value).toArray s 90 6000 (fun q => b0 ≤ q)) (14 + 2 * i) (55 + 169 * i) hc [(0, .ref q), (1, .ref o0), (2, .ref it)] 88 [] := by
    intro n
    induction n with
    | zero =>
      intro i lr hc owc adr szr h1 h2 hR hF hI hni hir
      exact absurd h2 (by omega)
    | succ n ih =>
      intro i lr hc owc adr szr h1 h2 hR hF hI hni hir
      have hLc := hF.A hQ hLx.1 (hQ.owa (i := 6) (by decide) (by decide))
      first | refine zz_aload_n C dX1_copy_88 rfl ?_ | refine zz_aload_nN C dX1_copy_88 rfl ?_
      refine zz_callF (x2 := ⟨"java/util/Iterator", "hasNext", "()Z"⟩) C zy_J9_hasNext (ct_J9_hasNext (by omega) (by omega) hI hLc) rfl q361 q365 q367 nif_6 nid_6 hI rfl rfl rfl rfl rfl rfl dX1_copy_89 ⟨by show (_ : Nat) ≤ 90; omega, by show (_ : Nat) ≤ 6000; omega⟩ (fun v hz hp => ?_)
      obtain ⟨rfl, ez⟩ := hp
      obtain rfl := ez.symm
      first | refine zz_ifb_eq (tgt := 128) C dX1_copy_94 (by decide) (fun c94 => ?_) (fun c94 => ?_) | refine zz_if_eq (tgt := 128) C dX1_copy_94 (by decide) (fun c94 => ?_) (fun c94 => ?_)
      · have hin : nb = i := by
          have := of_decide_eq_false c94
          omega
        rw [← hin] at hR
        clear hI hni hir hLc
        first | refine zz_aload_n C dX1_copy_128 rfl ?_ | refine zz_aload_nN C dX1_copy_128 rfl ?_
        refine zz_get C rfl (hQ.cp hF).gq rfl in_X1 6 rfl q185 (fun _ h => h) (by first | rfl | assumption) dX1_copy_129 ?_
        refine zz_callF (x2 := ⟨"java/util/List", "iterator", "()Ljava/util/Iterator;"⟩) C zy_J2_iterator (ct_J2_iterator (hF.A hQ hOx.1 hQ.ow8)) rfl q333 q336 q338 nif_2 nid_2 (hF.A hQ hOx.1 hQ.ow8) rfl rfl rfl rfl rfl rfl dX1_copy_132 ⟨by show (_ : Nat) ≤ 90; omega, by show (_ : Nat) ≤ 6000; omega⟩ (fun v hz hp => ?_)
        obtain ⟨it2, rfl, hit, hitb, ez⟩ := hp
        obtain rfl := ez.symm
        have hni := hF.ni hit
        have hRi := hR.nwo (e := it_F 0 (-1) mcO (ad 8)) (t := (it2, 98)) hit
        have hFi := hF.nw (e := it_F 0 (-1) mcO (ad 8)) (t := (it2, 98)) hit
        have hir : ((fun y => if y = it2 then (it2, 98) else owc y : Nat → Nat × Nat) it2).1 ≠ o0 := by
          show (if it2 = it2 then (it2, 98) else owc it2 : Nat × Nat).1 ≠ o0
          rw [if_pos rfl]
          exact fun g => by rw [show it2 = o0 from g, hR.gq] at hit; cases hit
        refine zz_astore_n C dX1_copy_137 (by decide) ?_
        have L138 : ∀ (n : Nat) (i : Nat) (lr : Int32) (hc : zz_H) (owc : Nat → Nat × Nat) (adr szr : Nat → Nat), i ≤ no → no + 1 ≤ i + n → qu_I D hc owc o0 adr szr (cp_S a) nb i → cp_F h ow hc owc → hc it2 = some (it_F i lr mcO (ad 8)) → (∀ y e', h y = some e' → h (ow y).1 ≠ none → y ≠ it2) → (owc it2).1 ≠ o0 → zz_V D b0 4 p l e ({ frames := 7, cells := 90, slots := 6000, locals := 191 } : Jvm.Room) s m ([.ref q] : List Value).toArray below meth c (MQ below (zz_Q D b0 (fun v h' => ∃ (r : Nat) (ow' : Nat → Nat × Nat) (ad' sz' : Nat → Nat), v = some (.ref r) ∧ h r = none ∧ b0 ≤ r ∧ qu_I D h' ow' r ad' sz' a nb no ∧ cp_F h ow h' ow')) ([.ref q] : List Value).toArray s 90 6000 (fun q => b0 ≤ q)) (15 + 2 * nb + 2 * i) (59 + 169 * nb + 164 * i) hc [(0, .ref q), (1, .ref o0), (2, .ref it2)] 138 [] := by
          intro n
          induction n with
          | zero =>
            intro i lr hc owc adr szr h1 h2 hR hF hI hni hir
            exact absurd h2 (by omega)
          | succ n ih =>
            intro i lr hc owc adr szr h1 h2 hR hF hI hni hir
            have hLc := hF.A hQ hOx.1 (hQ.ow8)
            first | refine zz_aload_n C dX1_copy_138 rfl ?_ | refine zz_aload_nN C dX1_copy_138 rfl ?_
            refine zz_callF (x2 := ⟨"java/util/Iterator", "hasNext", "()Z"⟩) C zy_J9_hasNext (ct_J9_hasNext (by omega) (by omega) hI hLc) rfl q361 q365 q367 nif_6 nid_6 hI rfl rfl rfl rfl rfl rfl dX1_copy_139 ⟨by show (_ : Nat) ≤ 90; omega, by show (_ : Nat) ≤ 6000; omega⟩ (fun v hz hp => ?_)
            obtain ⟨rfl, ez⟩ := hp
            obtain rfl := ez.symm
            first | refine zz_ifb_eq (tgt := 178) C dX1_copy_144 (by decide) (fun c144 => ?_) (fun c144 => ?_) | refine zz_if_eq (tgt := 178) C dX1_copy_144 (by decide) (fun c144 => ?_) (fun c144 => ?_)
            · have hin : no = i := by
                have := of_decide_eq_false c144
                omega
              rw [← hin] at hR
              clear hI hni hir hLc
              have hS := hQ.cp hF
              have h01 : a 7 = 0 ∨ a 7 = 1 := hwf.2.2.2.2.1.2.2.2.2
              first | refine zz_aload_n C dX1_copy_178 rfl ?_ | refine zz_aload_nN C dX1_copy_178 rfl ?_
              first | refine zz_aload_n C dX1_copy_179 rfl ?_ | refine zz_aload_nN C dX1_copy_179 rfl ?_
              refine zz_get C rfl hS.gq rfl in_X1 7 rfl q187 (fun _ h => h) (by first | rfl | assumption) dX1_copy_180 ?_
              refine zz_put C rfl hR.gq rfl in_X1 tyX1 tyX1_ok nmX1 7 rfl q187 (fun _ h => h) rfl (tyX1_ok 7 (by decide)) (zz_narZ h01) (by first | exact zz_fitZ _ | rfl | exact zz_fit01 (by assumption)) (Nat.le_of_ble_eq_true rfl) dX1_copy_183 ?_
              refine zz_gen (P := fun h' => qu_I D h' owc o0 adr szr (upd (cp_S a) 7 (a 7)) nb no ∧ cp_F h ow h' owc) ⟨hR.wq7 hnb hno, hF.un (fun y e he hr => fun g => by rw [g, n0] at he; cases he)⟩ (fun hz hP => ?_)
              obtain ⟨hR, hF⟩ := hP
              have hS := hQ.cp hF
              first | refine zz_aload_n C dX1_copy_186 rfl ?_ | refine zz_aload_nN C dX1_copy_186 rfl ?_
              first | refine zz_aload_n C dX1_copy_187 rfl ?_ | refine zz_aload_nN C dX1_copy_187 rfl ?_
              refine zz_get C rfl hS.gq rfl in_X1 8 rfl q189 (fun _ h => h) (by first | rfl | assumption) dX1_copy_188 ?_
              refine zz_put C rfl hR.gq rfl in_X1 tyX1 tyX1_ok nmX1 8 rfl q189 (fun _ h => h) rfl (tyX1_ok 8 (by decide)) (by first | rfl | exact zz_narZ (by first | exact zz_b01 _ | assumption | decide)) rfl (Nat.le_of_ble_eq_true rfl) dX1_copy_191 ?_
              refine zz_gen (P := fun h' => qu_I D h' owc o0 adr szr (upd (upd (cp_S a) 7 (a 7)) 4 (a 4)) nb no ∧ cp_F h ow h' owc) ⟨hR.wq4 hnb hno, hF.un (fun y e he hr => fun g => by rw [g, n0] at he; cases he)⟩ (fun hz hP => ?_)
              obtain ⟨hR, hF⟩ := hP
              have hS := hQ.cp hF
              first | refine zz_aload_n C dX1_copy_194 rfl ?_ | refine zz_aload_nN C dX1_copy_194 rfl ?_
              first | refine zz_aload_n C dX1_copy_195 rfl ?_ | refine zz_aload_nN C dX1_copy_195 rfl ?_
              refine zz_get C rfl hS.gq rfl in_X1 9 rfl q191 (fun _ h => h) (by first | rfl | assumption) dX1_copy_196 ?_
              refine zz_put C rfl hR.gq rfl in_X1 tyX1 tyX1_ok nmX1 9 rfl q191 (fun _ h => h) rfl (tyX1_ok 9 (by decide)) (by first | rfl | exact zz_narZ (by first | exact zz_b01 _ | assumption | decide)) rfl (Nat.le_of_ble_eq_true rfl) dX1_copy_199 ?_
              refine zz_gen (P := fun h' => qu_I D h' owc o0 adr szr (upd (upd (upd (cp_S a) 7 (a 7)) 4 (a 4)) 8 (a 8)) nb no ∧ cp_F h ow h' owc) ⟨hR.wq8 hnb hno, hF.un (fun y e he hr => fun g => by rw [g, n0] at he; cases he)⟩ (fun hz hP => ?_)
              obtain ⟨hR, hF⟩ := hP
              have hS := hQ.cp hF
              first | refine zz_aload_n C dX1_copy_202 rfl ?_ | refine zz_aload_nN C dX1_copy_202 rfl ?_
              first | refine zz_aload_n C dX1_copy_203 rfl ?_ | refine zz_aload_nN C dX1_copy_203 rfl ?_
              refine zz_get C rfl hS.gq rfl in_X1 10 rfl q193 (fun _ h => h) (by first | rfl | assumption) dX1_copy_204 ?_
              refine zz_put C rfl hR.gq rfl in_X1 tyX1 tyX1_ok nmX1 10 rfl q193 (fun _ h => h) rfl (tyX1_ok 10 (by decide)) (by first | rfl | exact zz_narZ (by first | exact zz_b01 _ | assumption | decide)) rfl (Nat.le_of_ble_eq_true rfl) dX1_copy_207 ?_
              refine zz_gen (P := fun h' => qu_I D h' owc o0 adr szr (upd (upd (upd (upd (cp_S a) 7 (a 7)) 4 (a 4)) 8 (a 8)) 9 (a 9)) nb no ∧ cp_F h ow h' owc) ⟨hR.wq9 hnb hno, hF.un (fun y e he hr => fun g => by rw [g, n0] at he; cases he)⟩ (fun hz hP => ?_)
              obtain ⟨hR, hF⟩ := hP
              have hS := hQ.cp hF
              first | refine zz_aload_n C dX1_copy_210 rfl ?_ | refine zz_aload_nN C dX1_copy_210 rfl ?_
              first | refine zz_aload_n C dX1_copy_211 rfl ?_ | refine zz_aload_nN C dX1_copy_211 rfl ?_
              refine zz_get C rfl hS.gq rfl in_X1 11 rfl q195 (fun _ h => h) (by first | rfl | assumption) dX1_copy_212 ?_
              refine zz_put C rfl hR.gq rfl in_X1 tyX1 tyX1_ok nmX1 11 rfl q195 (fun _ h => h) rfl (tyX1_ok 11 (by decide)) (by first | rfl | exact zz_narZ (by first | exact zz_b01 _ | assumption | decide)) rfl (Nat.le_of_ble_eq_true rfl) dX1_copy_215 ?_
              refine zz_gen (P := fun h' => qu_I D h' owc o0 adr szr (upd (upd (upd (upd (upd (cp_S a) 7 (a 7)) 4 (a 4)) 8 (a 8)) 9 (a 9)) 10 (a 10)) nb no ∧ cp_F h ow h' owc) ⟨hR.wq10 hnb hno, hF.un (fun y e he hr => fun g => by rw [g, n0] at he; cases he)⟩ (fun hz hP => ?_)
              obtain ⟨hR, hF⟩ := hP
              have hS := hQ.cp hF
              first | refine zz_aload_n C dX1_copy_218 rfl ?_ | refine zz_aload_nN C dX1_copy_218 rfl ?_
              first | refine zz_aload_n C dX1_copy_219 rfl ?_ | refine zz_aload_nN C dX1_copy_219 rfl ?_
              refine zz_get C rfl hS.gq rfl in_X1 12 rfl q197 (fun _ h => h) (by first | rfl | assumption) dX1_copy_220 ?_
              refine zz_put C rfl hR.gq rfl in_X1 tyX1 tyX1_ok nmX1 12 rfl q197 (fun _ h => h) rfl (tyX1_ok 12 (by decide)) (by first | rfl | exact zz_narZ (by first | exact zz_b01 _ | assumption | decide)) rfl (Nat.le_of_ble_eq_true rfl) dX1_copy_223 ?_
              refine zz_gen (P := fun h' => qu_I D h' owc o0 adr szr (upd (upd (upd (upd (upd (upd (cp_S a) 7 (a 7)) 4 (a 4)) 8 (a 8)) 9 (a 9)) 10 (a 10)) 11 (a 11)) nb no ∧ cp_F h ow h' owc) ⟨hR.wq11 hnb hno, hF.un (fun y e he hr => fun g => by rw [g, n0] at he; cases he)⟩ (fun hz hP => ?_)
              obtain ⟨hR, hF⟩ := hP
              have hS := hQ.cp hF
              first | refine zz_aload_n C dX1_copy_226 rfl ?_ | refine zz_aload_nN C dX1_copy_226 rfl ?_
              refine zz_aret C (Or.inl ⟨_, rfl⟩) (Or.inr ⟨_, rfl⟩) dX1_copy_227 (by first | rfl | exact Nat.ble_eq.mpr (by omega)) (by first | rfl | exact Nat.ble_eq.mpr (by omega)) ?_
              exact ⟨o0, owc, adr, szr, rfl, n0, b0, hR.cpe hnb hno, hF⟩
            · have hi2 : i < no := of_decide_eq_true c144
              first | refine zz_aload_n C dX1_copy_147 rfl ?_ | refine zz_aload_nN C dX1_copy_147 rfl ?_
              refine zz_callF (x2 := ⟨"java/util/Iterator", "next", "()Ljava/lang/Object;"⟩) C zy_J9_next (ct_J9_next hi2 hOx.2.2.1 (helo i hi2) hI hLc (hTbo hc owc hF hi2) (by omega)) rfl q371 q374 q376 nif_7 nid_7 hI rfl rfl rfl rfl rfl rfl dX1_copy_148 ⟨by show (_ : Nat) ≤ 90; omega, by show (_ : Nat) ≤ 6000; omega⟩ (fun v hz hp => ?_)
              obtain ⟨rfl, ez⟩ := hp
              obtain rfl := ez.symm
              refine zz_gen (P := fun h' => qu_I D h' owc o0 adr szr (cp_S a) nb i ∧ cp_F h ow h' owc ∧ h' it2 = some (it_F (i + 1) (nI i) mcO (ad 8))) ⟨hR.ux hI (by decide) hir, hF.un hni, zz_us⟩ (fun hz hP => ?_)
              obtain ⟨hR, hF, hI⟩ := hP
              have hbi := hF.A hQ (hQ.go hi2) (hQ.owo hi2)
              have hzi := hF _ _ (hQ.oz hi2) (by rw [(hQ.2.2.2.2.2.2.2.1 i hi2).2.2, hQ.oz hi2]; exact fun g => by cases g)
              refine zz_cast C rfl (hF.A hQ (hQ.go hi2) (hQ.owo hi2)) rfl q497 (by first | exact Or.inl rfl | exact Or.inr (by decide +kernel)) dX1_copy_153 ?_
              refine zz_astore_n C dX1_copy_156 (by decide) ?_
              refine zz_def C (fun hD => ?_)
              obtain ⟨mcR, arR, capR, fR, hRx⟩ := hR.gO
              first | refine zz_aload_n C dX1_copy_157 rfl ?_ | refine zz_aload_nN C dX1_copy_157 rfl ?_
              refine zz_get C rfl hR.gq rfl in_X1 6 rfl q185 (fun _ h => h) (by first | rfl | assumption) dX1_copy_158 ?_
              refine zz_new (ci := 3) (fs := [.null, .int 0, .int 0, .int 0]) (Cn := RX4) (T := TX4) (N := 4) C rfl rfl in_X4 tyX4 tyX4_ok q497 q498 q107 (by intro j hj; match j, hj with | 0, _ => rfl | 1, _ => rfl | 2, _ => rfl | 3, _ => rfl) (Nat.ble_eq.mpr (by show (_ : Nat) ≤ 90; omega)) (Nat.ble_eq.mpr (by show (_ : Nat) ≤ 6000; omega)) dX1_copy_161 (fun o161 n161 b161 => ?_)
              have hoD : o161 ≠ D.2 1000 3 := fun g => (zz_tDEF C).out (by rw [← g]; exact b161)
              refine zz_dup C dX1_copy_164 rfl ?_
              first | refine zz_aload_n C dX1_copy_165 rfl ?_ | refine zz_aload_nN C dX1_copy_165 rfl ?_
              refine zz_callI C zy_X4_init (ct_X4_init zz_us (zz_uf hbi n161) (zz_nf hbi n161)) rfl q499 rfl rfl rfl rfl rfl dX1_copy_166 ⟨by show (_ : Nat) ≤ 90; omega, by show (_ : Nat) ≤ 6000; omega⟩ (fun v hz hp => ?_)
              obtain ⟨rfl, ez⟩ := hp
              rw [zz_upup] at ez
              obtain rfl := ez.symm
              refine zz_callF (x2 := ⟨"java/util/List", "add", "(Ljava/lang/Object;)Z"⟩) C zy_J2_add (ct_J2_add (by omega) ((hRx.nw n161).A (hR.nw n161).anyo) (zz_any_o zz_us) (zz_uf hRx.1 n161)) rfl q438 q441 q443 nif_3 nid_3 (zz_uf hRx.1 n161) rfl rfl rfl rfl rfl rfl dX1_copy_169 ⟨by show (_ : Nat) ≤ 90; omega, by show (_ : Nat) ≤ 6000; omega⟩ (fun v hz hp => ?_)
              obtain ⟨ar', cap', f', rfl, ez, hRr⟩ := hp
              obtain rfl := ez.symm
              obtain ⟨ow2, hR2, hG2⟩ := hR.addo (a' := cp_S a) (by omega) (by omega) hD n161 hoD hRx hRr (fun _ _ _ _ => rfl) (fun _ _ _ => rfl) (fun _ _ => rfl) cp_So (hzi.1.trans (congrArg some cp_Sz)) (by rw [hzi.2]; exact (hQ.2.2.2.2.2.2.2.1 i hi2).2.2)
              have hI2 := (hG2 _ _ hI hir).1
              have hir2 : (ow2 it2).1 ≠ o0 := by rw [(hG2 _ _ hI hir).2]; exact hir
              have hF2 := hF.F n0 hG2
              refine zz_gen (P := fun h' => qu_I D h' ow2 o0 _ _ (cp_S a) nb (i + 1) ∧ cp_F h ow h' ow2 ∧ h' it2 = some (it_F (i + 1) (nI i) mcO (ad 8))) ⟨hR2, hF2, hI2⟩ (fun hz hP => ?_)
              obtain ⟨hR2, hF2, hI2⟩ := hP
              refine zz_pop C dX1_copy_174 rfl ?_
              refine zz_goto (tgt := 138) C dX1_copy_175 (by decide) ?_
              refine zz_widen (cs' := 15 + 2 * nb + 2 * (i + 1)) (ss' := 59 + 169 * nb + 164 * (i + 1)) (by omega) (by omega) ?_
              exact zz_loc2 (ih (i + 1) (nI i) hz ow2 _ _ (by omega) (by omega) hR2 hF2 hI2 hni hir2) ⟨rfl, rfl, rfl, trivial⟩
        exact zz_loc2 (L138 (no + 1) 0 (-1) _ _ _ _ (by omega) (by omega) hRi hFi zz_us hni hir) ⟨rfl, rfl, rfl, trivial⟩
      · have hi2 : i < nb := of_decide_eq_true c94
        first | refine zz_aload_n C dX1_copy_97 rfl ?_ | refine zz_aload_nN C dX1_copy_97 rfl ?_
        refine zz_callF (x2 := ⟨"java/util/Iterator", "next", "()Ljava/lang/Object;"⟩) C zy_J9_next (ct_J9_next hi2 hLx.2.2.1 (helb i hi2) hI hLc (hTbb hc owc hF hi2) (by omega)) rfl q371 q374 q376 nif_7 nid_7 hI rfl rfl rfl rfl rfl rfl dX1_copy_98 ⟨by show (_ : Nat) ≤ 90; omega, by show (_ : Nat) ≤ 6000; omega⟩ (fun v hz hp => ?_)
        obtain ⟨rfl, ez⟩ := hp
        obtain rfl := ez.symm
        refine zz_gen (P := fun h' => qu_I D h' owc o0 adr szr (cp_S a) i 0 ∧ cp_F h ow h' owc ∧ h' it = some (it_F (i + 1) (nI i) mcL (ad 6))) ⟨hR.ux hI (by decide) hir, hF.un hni, zz_us⟩ (fun hz hP => ?_)
        obtain ⟨hR, hF, hI⟩ := hP
        have hbi := hF.A hQ (hQ.gb hi2) (hQ.owb hi2)
        have hzi := hF _ _ (hQ.gz hi2) (by rw [hQ.ozb hi2, hQ.gz hi2]; exact fun g => by cases g)
        refine zz_cast C rfl (hF.A hQ (hQ.gb hi2) (hQ.owb hi2)) rfl q383 (by first | exact Or.inl rfl | exact Or.inr (by decide +kernel)) dX1_copy_103 ?_
        refine zz_astore_n C dX1_copy_106 (by decide) ?_
        refine zz_def C (fun hD => ?_)
        obtain ⟨mcR, arR, capR, fR, hRx⟩ := hR.gL
        first | refine zz_aload_n C dX1_copy_107 rfl ?_ | refine zz_aload_nN C dX1_copy_107 rfl ?_
        refine zz_get C rfl hR.gq rfl in_X1 5 rfl q183 (fun _ h => h) (by first | rfl | assumption) dX1_copy_108 ?_
        refine zz_new (ci := 2) (fs := [.int 0, .null, .int 0, .int 0, .int 0, .int 0, .int 0, .int 0, .int 0]) (Cn := RX3) (T := TX3) (N := 9) C rfl rfl in_X3 tyX3 tyX3_ok q383 q384 q103 (by intro j hj; match j, hj with | 0, _ => rfl | 1, _ => rfl | 2, _ => rfl | 3, _ => rfl | 4, _ => rfl | 5, _ => rfl | 6, _ => rfl | 7, _ => rfl | 8, _ => rfl) (Nat.ble_eq.mpr (by show (_ : Nat) ≤ 90; omega)) (Nat.ble_eq.mpr (by show (_ : Nat) ≤ 6000; omega)) dX1_copy_111 (fun o111 n111 b111 => ?_)
        have hoD : o111 ≠ D.2 1000 3 := fun g => (zz_tDEF C).out (by rw [← g]; exact b111)
        refine zz_dup C dX1_copy_114 rfl ?_
        first | refine zz_aload_n C dX1_copy_115 rfl ?_ | refine zz_aload_nN C dX1_copy_115 rfl ?_
        refine zz_callI C zy_X3_init (ct_X3_init (hwf.c6 hi2) zz_us (zz_uf hbi n111) (zz_nf hbi n111)) rfl q385 rfl rfl rfl rfl rfl dX1_copy_116 ⟨by show (_ : Nat) ≤ 90; omega, by show (_ : Nat) ≤ 6000; omega⟩ (fun v hz hp => ?_)
        obtain ⟨rfl, ez⟩ := hp
        rw [zz_upup] at ez
        obtain rfl := ez.symm
        refine zz_callF (x2 := ⟨"java/util/List", "add", "(Ljava/lang/Object;)Z"⟩) C zy_J2_add (ct_J2_add (by omega) ((hRx.nw n111).A (hR.nw n111).anyb) (zz_any_b zz_us) (zz_uf hRx.1 n111)) rfl q438 q441 q443 nif_3 nid_3 (zz_uf hRx.1 n111) rfl rfl rfl rfl rfl rfl dX1_copy_119 ⟨by show (_ : Nat) ≤ 90; omega, by show (_ : Nat) ≤ 6000; omega⟩ (fun v hz hp => ?_)
        obtain ⟨ar', cap', f', rfl, ez, hRr⟩ := hp
        obtain rfl := ez.symm
        obtain ⟨ow2, hR2, hG2⟩ := hR.addb (a' := cp_S a) (by omega) (by omega) hD n111 hoD hRx hRr (fun _ _ _ _ => rfl) (fun _ _ _ => rfl) (fun _ _ => rfl) cp_Sb (hzi.1.trans (congrArg some cp_Ss)) (by rw [hzi.2]; exact hQ.ozb hi2)
        have hI2 := (hG2 _ _ hI hir).1
        have hir2 : (ow2 it).1 ≠ o0 := by rw [(hG2 _ _ hI hir).2]; exact hir
        have hF2 := hF.F n0 hG2
        refine zz_gen (P := fun h' => qu_I D h' ow2 o0 _ _ (cp_S a) (i + 1) 0 ∧ cp_F h ow h' ow2 ∧ h' it = some (it_F (i + 1) (nI i) mcL (ad 6))) ⟨hR2, hF2, hI2⟩ (fun hz hP => ?_)
        obtain ⟨hR2, hF2, hI2⟩ := hP
        refine zz_pop C dX1_copy_124 rfl ?_
        refine zz_goto (tgt := 88) C dX1_copy_125 (by decide) ?_
        refine zz_widen (cs' := 14 + 2 * (i + 1)) (ss' := 55 + 169 * (i + 1)) (by omega) (by omega) ?_
        exact zz_loc2 (ih (i + 1) (nI i) hz ow2 _ _ (by omega) (by omega) hR2 hF2 hI2 hni hir2) ⟨rfl, rfl, rfl, trivial⟩
  exact zz_loc2 (L88 (nb + 1) 0 (-1) _ _ _ _ (by omega) (by omega) hRi hFi zz_us hni hir) ⟨rfl, rfl, rfl, trivial⟩

