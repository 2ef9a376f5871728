/-! the quarry: a lorry leaves, a night passes -/
/-- the lorry's blocks are delivered, block by block -/
def ca_lv (a : Nat → Int32) (l : Int32) : Nat → Int32 × (Nat → Int32)
  | 0 => (0, a)
  | n + 1 => if ca_on (ca_lv a l n).2 l n = true then ((ca_lv a l n).1 + qa_inv (ca_lv a l n).2 n, qa_del (ca_lv a l n).2 n) else ((ca_lv a l n).1 + 0, (ca_lv a l n).2)
theorem ca_lv_t {a : Nat → Int32} {l : Int32} {n : Nat} (h : ca_on (ca_lv a l n).2 l n = true) : ca_lv a l (n + 1) = ((ca_lv a l n).1 + qa_inv (ca_lv a l n).2 n, qa_del (ca_lv a l n).2 n) := if_pos h
theorem ca_lv_f {a : Nat → Int32} {l : Int32} {n : Nat} (h : ca_on (ca_lv a l n).2 l n = false) : ca_lv a l (n + 1) = ((ca_lv a l n).1 + 0, (ca_lv a l n).2) := if_neg (by rw [h]; decide)
theorem wfn.clv {a : Nat → Int32} {nb no : Nat} (h : wfn a nb no) (l : Int32) : ∀ n : Nat, n ≤ nb → wfn (ca_lv a l n).2 nb no
  | 0, _ => h
  | n + 1, hn => by
    have ih := wfn.clv h l n (by omega)
    cases hc : ca_on (ca_lv a l n).2 l n with
    | true => rw [ca_lv_t hc]; exact ih.del (by omega)
    | false => rw [ca_lv_f hc]; exact ih
theorem qa_left_c {a : Nat → Int32} {k : Nat} {s : Int32} (hk : k ≠ 11) : upd (upd a k (a k + 1)) 11 (upd a k (a k + 1) 11 + s) = qa_left a k s := by
  unfold qa_left
  funext j
  by_cases h1 : j = 11
  · rw [h1, up_s, up_n (Ne.symm hk), up_n (Ne.symm hk), up_s]
  · rw [up_n h1]
    by_cases h2 : j = k
    · rw [h2, up_s, up_s, up_n hk]
    · rw [up_n h2, up_n h2, up_n h1]
theorem wfn.u7 {a : Nat → Int32} {nb no : Nat} {v : Int32} (h : wfn a nb no) (hv : v = 0 ∨ v = 1) : wfn (upd a 7 v) nb no := h.sc (fun j h1 _ => up_n (by omega)) (up_n (by decide)) (up_n (by decide)) (by
  obtain ⟨g1, g2, g3, g4, g5⟩ := h.2.2.2.2.1
  unfold wS
  rw [up_n (by decide), up_n (by decide), up_n (by decide), up_n (by decide), up_s]
  exact ⟨g1, g2, g3, g4, hv⟩)
theorem qa_cr_or {a : Nat → Int32} {b : Nat} : a (12 + 10 * b + 6) ||| zz_b (qa_cr a b) = if qa_cr a b = true then 1 else a (12 + 10 * b + 6) := by
  cases hc : qa_cr a b with
  | true =>
    unfold qa_cr qa_wc at hc
    simp only [Bool.and_eq_true, decide_eq_true_eq] at hc
    rw [hc.2.2]
    rfl
  | false => exact Int32.or_zero
theorem qa_dry_t : ∀ w : Nat, w ≤ 4 → ∀ t : Nat, t ≤ 3 → decide (nI w ≤ 2) = true → (if 0 < nI t - 1 then nI t - 1 else 0) = nI t - (if (!decide (nI t ≤ 0) && !decide (nI w = 3) && !decide (nI w = 4)) = true then 1 else 0) := by decide
theorem qa_dry_f : ∀ w : Nat, w ≤ 4 → ∀ t : Nat, t ≤ 3 → decide (nI w ≤ 2) = false → nI t = nI t - (if (!decide (nI t ≤ 0) && !decide (nI w = 3) && !decide (nI w = 4)) = true then 1 else 0) := by decide
theorem wfn.dry {a : Nat → Int32} {nb no b : Nat} (h : wfn a nb no) (hb : b < nb) (hc : decide (a (12 + 10 * b + 4) ≤ 2) = true) : (if 0 < a (12 + 10 * b + 5) - 1 then a (12 + 10 * b + 5) - 1 else 0) = a (12 + 10 * b + 5) - (if qa_dry a b = true then 1 else 0) := by
  obtain ⟨w, hw, ew⟩ := h.w4 hb
  obtain ⟨t, ht, et⟩ := (h.b hb).2.2.2.1
  have et : a (12 + 10 * b + 5) = nI t := et
  unfold qa_dry
  rw [ew] at hc
  rw [ew, et]
  exact qa_dry_t w hw t ht hc
theorem wfn.ndry {a : Nat → Int32} {nb no b : Nat} (h : wfn a nb no) (hb : b < nb) (hc : decide (a (12 + 10 * b + 4) ≤ 2) = false) : a (12 + 10 * b + 5) = a (12 + 10 * b + 5) - (if qa_dry a b = true then 1 else 0) := by
  obtain ⟨w, hw, ew⟩ := h.w4 hb
  obtain ⟨t, ht, et⟩ := (h.b hb).2.2.2.1
  have et : a (12 + 10 * b + 5) = nI t := et
  unfold qa_dry
  rw [ew] at hc
  rw [ew, et]
  exact qa_dry_f w hw t ht hc
theorem qa_n1_01 {a : Nat → Int32} {nb no b : Nat} (h : wfn a nb no) (hb : b < nb) : (if qa_cr a b = true then (1 : Int32) else a (12 + 10 * b + 6)) = 0 ∨ (if qa_cr a b = true then (1 : Int32) else a (12 + 10 * b + 6)) = 1 := by
  split
  · exact Or.inr rfl
  · exact h.c6 hb
theorem qa_n1_wfn {a : Nat → Int32} {nb no b : Nat} (h : wfn a nb no) (hb : b < nb) : wfn (qa_n1 a b) nb no := h.fld hb (by decide) (by decide) (wB.u6 (h.b hb) (by
  split
  · exact Or.inr rfl
  · exact h.c6 hb))
theorem ct_X1_leave {l : Launch} {D : va_G} {b0 : Nat} {h : zz_H} {q : Nat} {ow : Nat → Nat × Nat} {ad sz : Nat → Nat} {a : Nat → Int32} {nb no : Nat} (hwf : wfn a nb no) (hQ : qu_I D h ow q ad sz a nb no) {l1 : Nat} {v1 : Int32} (hv1 : v1 = nI l1) (hl1 : l1 < 3)  : zz_Ct l D b0 yX1_leave cX1_leave 5 (some .int) 4 86 1 4 [.ref q, .int v1] h (fun v h' => ∃ ow' : Nat → Nat × Nat, v = some (.int (ca_lv a v1 nb).1) ∧ qu_I D h' ow' q ad sz (qa_left (ca_lv a v1 nb).2 (312 + 4 * l1 + 3) (ca_lv a v1 nb).1) nb no ∧ qu_F q h ow h' ow') := by
  refine zz_Ct.of zy_X1_leave.1 rfl ?_
  intro p e s m below meth c C
  have hnb := hwf.1
  have hno := hwf.2.1
  obtain ⟨mcL, ar, cap, f, hLx⟩ := hQ.gL
  refine zz_iconst (v := 0) C dX1_leave_0 (by decide) ?_
  refine zz_istore_n C dX1_leave_1 (by decide) ?_
  first | refine zz_aload_n C dX1_leave_2 rfl ?_ | refine zz_aload_nN C dX1_leave_2 rfl ?_
  refine zz_get C rfl hQ.gq rfl in_X1 5 rfl q183 (fun _ h => h) (by first | rfl | assumption) dX1_leave_3 ?_
  refine zz_callF (x2 := ⟨"java/util/List", "iterator", "()Ljava/util/Iterator;"⟩) C zy_J2_iterator (ct_J2_iterator hLx.1) rfl q333 q336 q338 nif_2 nid_2 hLx.1 rfl rfl rfl rfl rfl rfl dX1_leave_6 ⟨Nat.le_of_ble_eq_true rfl, Nat.le_of_ble_eq_true rfl⟩ (fun v hz hp => ?_)
  obtain ⟨it, rfl, hit, hitb, ez⟩ := hp
  obtain rfl := ez.symm
  have hS0 := lp_I.new hQ hLx hit
  refine zz_astore_n C dX1_leave_11 (by decide) ?_
  have L12 : ∀ (n : Nat) (i : Nat) (lr : Int32) (hc : zz_H), i ≤ nb → nb + 1 ≤ i + n → lp_I D h ow hc (fun y => if y = it then (it, 98) else ow y) q ad sz ((ca_lv a v1 i).2) nb no it i lr → zz_V D b0 5 p l e ({ frames := 4, cells := 1, slots := 4, locals := 86 } : Jvm.Room) s m ([.ref q, .int v1] : List Value).toArray below meth c (MQ below (zz_Q D b0 (fun v h' => ∃ ow' : Nat → Nat × Nat, v = some (.int (ca_lv a v1 nb).1) ∧ qu_I D h' ow' q ad sz (qa_left (ca_lv a v1 nb).2 (312 + 4 * l1 + 3) (ca_lv a v1 nb).1) nb no ∧ qu_F q h ow h' ow')) ([.ref q, .int v1] : List Value).toArray s 1 4 (fun q => b0 ≤ q)) 1 4 hc [(0, .ref q), (1, .int v1), (2, .int (ca_lv a v1 i).1), (3, .ref it)] 12 [] := by
    intro n
    induction n with
    | zero =>
      intro i lr hc h1 h2 hS
      exact absurd h2 (by omega)
    | succ n ih =>
      intro i lr hc h1 h2 hS
      obtain ⟨hQc, hFc, hnn, mcL, ar, cap, f, hI, hLx, hoit⟩ := id hS
      have hel : ∀ i : Nat, i < nb → f i = some (ad (10 + i)) := hLx.2.2.2.2.2
      have hcap : cap ≤ 100 := hLx.2.2.2.1
      first | refine zz_aload_n C dX1_leave_12 rfl ?_ | refine zz_aload_nN C dX1_leave_12 rfl ?_
      refine zz_callF (x2 := ⟨"java/util/Iterator", "hasNext", "()Z"⟩) C zy_J9_hasNext (ct_J9_hasNext (by omega) (by omega) hI hLx.1) rfl q361 q365 q367 nif_6 nid_6 hI rfl rfl rfl rfl rfl rfl dX1_leave_13 ⟨Nat.le_of_ble_eq_true rfl, Nat.le_of_ble_eq_true rfl⟩ (fun v hz hp => ?_)
      obtain ⟨rfl, ez⟩ := hp
      obtain rfl := ez.symm
      first | refine zz_ifb_eq (tgt := 57) C dX1_leave_18 (by decide) (fun c18 => ?_) (fun c18 => ?_) | refine zz_if_eq (tgt := 57) C dX1_leave_18 (by decide) (fun c18 => ?_) (fun c18 => ?_)
      · obtain rfl : nb = i := by
          have := of_decide_eq_false c18
          omega
        obtain ⟨fl, hfl, efl⟩ := hS.1.gl 3 (by decide)
        first | refine zz_aload_n C dX1_leave_57 rfl ?_ | refine zz_aload_nN C dX1_leave_57 rfl ?_
        refine zz_get C rfl hS.1.gq rfl in_X1 4 rfl q181 (fun _ h => h) (by first | rfl | assumption) dX1_leave_58 ?_
        refine zz_iload_n C dX1_leave_61 rfl ?_
        refine zz_dup2 C dX1_leave_62 rfl rfl ?_
        refine zz_iald C hfl hv1 (by omega) (by omega) dX1_leave_63 ?_
        rw [efl l1 hl1]
        refine zz_iconst (v := 1) C dX1_leave_64 (by decide) ?_
        refine zz_iadd C dX1_leave_65 ?_
        first | refine zz_iast2 C hv1 (by omega) (by omega) dX1_leave_66 ?_ | refine zz_iast C hfl hv1 (by omega) (by omega) dX1_leave_66 ?_
        refine zz_gen (P := fun h' => qu_I D h' (fun y => if y = it then (it, 98) else ow y) q ad sz (upd ((ca_lv a v1 nb).2) (312 + 4 * l1 + 3) (((ca_lv a v1 nb).2) (312 + 4 * l1 + 3) + 1)) nb no ∧ qu_F q h ow h' (fun y => if y = it then (it, 98) else ow y)) ⟨hS.1.wl hnb hno 3 (by decide) efl hl1, hS.2.1.tr (qu_F.up (by rw [show ad 5 = ad 5 from rfl, hS.1.owa (i := 5) (by decide) (by decide)]))⟩ (fun hz hP => ?_)
        obtain ⟨hQ, hF⟩ := hP
        first | refine zz_aload_n C dX1_leave_67 rfl ?_ | refine zz_aload_nN C dX1_leave_67 rfl ?_
        refine zz_dup C dX1_leave_68 rfl ?_
        refine zz_get C rfl hQ.gq rfl in_X1 12 rfl q197 (fun _ h => h) (by first | rfl | assumption) dX1_leave_69 ?_
        refine zz_iload_n C dX1_leave_72 rfl ?_
        refine zz_iadd C dX1_leave_73 ?_
        refine zz_put C rfl hQ.gq rfl in_X1 tyX1 tyX1_ok nmX1 12 rfl q197 (fun _ h => h) rfl (tyX1_ok 12 (by decide)) (by first | rfl | exact zz_narZ (by first | exact zz_b01 _ | assumption | decide)) rfl (Nat.le_of_ble_eq_true rfl) dX1_leave_74 ?_
        refine zz_gen (P := fun h' => qu_I D h' (fun y => if y = it then (it, 98) else ow y) q ad sz (upd (upd ((ca_lv a v1 nb).2) (312 + 4 * l1 + 3) (((ca_lv a v1 nb).2) (312 + 4 * l1 + 3) + 1)) 11 (upd ((ca_lv a v1 nb).2) (312 + 4 * l1 + 3) (((ca_lv a v1 nb).2) (312 + 4 * l1 + 3) + 1) 11 + (ca_lv a v1 nb).1)) nb no ∧ qu_F q h ow h' (fun y => if y = it then (it, 98) else ow y)) ⟨hQ.wq11 hnb hno, hF.tr (qu_F.up (by rw [hQ.oq]))⟩ (fun hz hP => ?_)
        obtain ⟨hQ, hF⟩ := hP
        refine zz_iload_n C dX1_leave_77 rfl ?_
        refine zz_iret C dX1_leave_78 (by first | rfl | exact Nat.ble_eq.mpr (by omega)) (by first | rfl | exact Nat.ble_eq.mpr (by omega)) ?_
        refine ⟨_, rfl, ?_, hF⟩
        rw [← qa_left_c (by omega)]
        exact hQ
      · have hi2 : i < nb := of_decide_eq_true c18
        first | refine zz_aload_n C dX1_leave_21 rfl ?_ | refine zz_aload_nN C dX1_leave_21 rfl ?_
        refine zz_callF (x2 := ⟨"java/util/Iterator", "next", "()Ljava/lang/Object;"⟩) C zy_J9_next (ct_J9_next hi2 hLx.2.2.1 (hel i hi2) hI hLx.1 (hLx.T hi2) (by omega)) rfl q371 q374 q376 nif_7 nid_7 hI rfl rfl rfl rfl rfl rfl dX1_leave_22 ⟨Nat.le_of_ble_eq_true rfl, Nat.le_of_ble_eq_true rfl⟩ (fun v hz hp => ?_)
        obtain ⟨rfl, ez⟩ := hp
        obtain rfl := ez.symm
        refine zz_gen (P := fun h' => lp_I D h ow h' (fun y => if y = it then (it, 98) else ow y) q ad sz ((ca_lv a v1 i).2) nb no it (i + 1) (nI i)) (hS.nx hI) (fun hz hS => ?_)
        have hQ := hS.1
        refine zz_cast C rfl (hQ.gb hi2) rfl q383 (by first | exact Or.inl rfl | exact Or.inr (by decide +kernel)) dX1_leave_27 ?_
        refine zz_astore C dX1_leave_30 (by decide) ?_
        refine zz_iload_n C dX1_leave_32 rfl ?_
        first | refine zz_aload C dX1_leave_33 rfl ?_ | refine zz_aloadN C dX1_leave_33 rfl ?_
        refine zz_iload_n C dX1_leave_35 rfl ?_
        refine zz_callV C zy_X3_isOn (ct_X3_isOn (hQ.gb hi2)) rfl q749 (hQ.gb hi2) rfl rfl rfl rfl rfl rfl dX1_leave_36 ⟨Nat.le_of_ble_eq_true rfl, Nat.le_of_ble_eq_true rfl⟩ (fun v hz hp => ?_)
        obtain ⟨rfl, ez⟩ := hp
        obtain rfl := ez.symm
        first | refine zz_ifb_eq (tgt := 51) C dX1_leave_39 (by decide) (fun c39 => ?_) (fun c39 => ?_) | refine zz_if_eq (tgt := 51) C dX1_leave_39 (by decide) (fun c39 => ?_) (fun c39 => ?_)
        · have e1 := ca_lv_f (a := a) (l := v1) (n := i) c39
          refine zz_iconst (v := 0) C dX1_leave_51 (by decide) ?_
          refine zz_iadd C dX1_leave_52 ?_
          refine zz_istore_n C dX1_leave_53 (by decide) ?_
          refine zz_goto (tgt := 12) C dX1_leave_54 (by decide) ?_
          exact zz_loc2 (ih (i + 1) (nI i) hz (by omega) (by omega) (by rw [e1]; exact hS)) ⟨rfl, rfl, (by rw [e1]; rfl), rfl, trivial⟩
        · have e1 := ca_lv_t (a := a) (l := v1) (n := i) c39
          first | refine zz_aload_n C dX1_leave_42 rfl ?_ | refine zz_aload_nN C dX1_leave_42 rfl ?_
          first | refine zz_aload C dX1_leave_43 rfl ?_ | refine zz_aloadN C dX1_leave_43 rfl ?_
          refine zz_callV C zy_X1_deliver (ct_X1_deliver (hwf.clv v1 i (by omega)) hQ hi2) rfl q792 hQ.gq rfl rfl rfl rfl rfl rfl dX1_leave_45 ⟨Nat.le_of_ble_eq_true rfl, Nat.le_of_ble_eq_true rfl⟩ (fun v hz hp => ?_)
          obtain ⟨rfl, hQ2, hG2⟩ := hp
          replace hS := hS.up hQ2 hG2
          refine zz_goto (tgt := 52) C dX1_leave_48 (by decide) ?_
          refine zz_iadd C dX1_leave_52 ?_
          refine zz_istore_n C dX1_leave_53 (by decide) ?_
          refine zz_goto (tgt := 12) C dX1_leave_54 (by decide) ?_
          exact zz_loc2 (ih (i + 1) (nI i) hz (by omega) (by omega) (by rw [e1]; exact hS)) ⟨rfl, rfl, (by rw [e1]; rfl), rfl, trivial⟩
  exact zz_loc2 (L12 (nb + 1) 0 (-1) _ (by omega) (by omega) hS0) ⟨rfl, rfl, rfl, rfl, trivial⟩

theorem ct_X1_night {l : Launch} {D : va_G} {b0 : Nat} {h : zz_H} {q : Nat} {ow : Nat → Nat × Nat} {ad sz : Nat → Nat} {a : Nat → Int32} {nb no : Nat} (hwf : wfn a nb no) (hQ : qu_I D h ow q ad sz a nb no) {v1 : Int32}  : zz_Ct l D b0 yX1_night cX1_night 6 (some .int) 3 61 1 4 [.ref q, .int v1] h (fun v h' => ∃ ow' : Nat → Nat × Nat, v = some (.int (qa_nt (upd a 7 (if v1 ≤ a 2 then 1 else 0)) nb).1) ∧ qu_I D h' ow' q ad sz (upd ((qa_nt (upd a 7 (if v1 ≤ a 2 then 1 else 0)) nb).2) 4 (((qa_nt (upd a 7 (if v1 ≤ a 2 then 1 else 0)) nb).2) 4 + 1)) nb no ∧ qu_F q h ow h' ow') := by
  refine zz_Ct.of zy_X1_night.1 rfl ?_
  intro p e s m below meth c C
  have hnb := hwf.1
  have hno := hwf.2.1
  obtain ⟨fs, hfs, es⟩ := hQ.gs
  first | refine zz_aload_n C dX1_night_0 rfl ?_ | refine zz_aload_nN C dX1_night_0 rfl ?_
  refine zz_joinI (pcJ := 16) (if v1 ≤ a 2 then (1 : Int32) else 0) ?_ ?_
  · rintro z16 rfl
    have h01 : (if v1 ≤ a 2 then (1 : Int32) else 0) = 0 ∨ (if v1 ≤ a 2 then (1 : Int32) else 0) = 1 := by split <;> simp
    refine zz_put C rfl hQ.gq rfl in_X1 tyX1 tyX1_ok nmX1 7 rfl q187 (fun _ h => h) rfl (tyX1_ok 7 (by decide)) (by first | rfl | exact zz_narZ (by first | exact zz_b01 _ | assumption | decide)) (by first | exact zz_fitZ _ | rfl | exact zz_fit01 (by assumption)) (Nat.le_of_ble_eq_true rfl) dX1_night_16 ?_
    refine zz_gen (P := fun h' => qu_I D h' ow q ad sz (upd a 7 (if v1 ≤ a 2 then 1 else 0)) nb no ∧ qu_G q h ow h') ⟨hQ.wq7 hnb hno, qu_G.up hQ.oq (Or.inl rfl)⟩ (fun hy hP => ?_)
    obtain ⟨hQ, hG⟩ := hP
    obtain ⟨mcL, ar, cap, f, hLx⟩ := hQ.gL
    have hw1 : wfn (upd a 7 (if v1 ≤ a 2 then 1 else 0)) nb no := hwf.u7 h01
    refine zz_iconst (v := 0) C dX1_night_19 (by decide) ?_
    refine zz_istore_n C dX1_night_20 (by decide) ?_
    first | refine zz_aload_n C dX1_night_21 rfl ?_ | refine zz_aload_nN C dX1_night_21 rfl ?_
    refine zz_get C rfl hQ.gq rfl in_X1 5 rfl q183 (fun _ h => h) (by first | rfl | assumption) dX1_night_22 ?_
    refine zz_callF (x2 := ⟨"java/util/List", "iterator", "()Ljava/util/Iterator;"⟩) C zy_J2_iterator (ct_J2_iterator hLx.1) rfl q333 q336 q338 nif_2 nid_2 hLx.1 rfl rfl rfl rfl rfl rfl dX1_night_25 ⟨Nat.le_of_ble_eq_true rfl, Nat.le_of_ble_eq_true rfl⟩ (fun v hz hp => ?_)
    obtain ⟨it, rfl, hit, hitb, ez⟩ := hp
    obtain rfl := ez.symm
    have hS0 := lp_I.new hQ hLx hit
    refine zz_astore_n C dX1_night_30 (by decide) ?_
    have L31 : ∀ (n : Nat) (i : Nat) (lr : Int32) (hc : zz_H), i ≤ nb → nb + 1 ≤ i + n → lp_I D hy ow hc (fun y => if y = it then (it, 98) else ow y) q ad sz ((qa_nt (upd a 7 (if v1 ≤ a 2 then 1 else 0)) i).2) nb no it i lr → zz_V D b0 6 p l e ({ frames := 3, cells := 1, slots := 4, locals := 61 } : Jvm.Room) s m ([.ref q, .int v1] : List Value).toArray below meth c (MQ below (zz_Q D b0 (fun v h' => ∃ ow' : Nat → Nat × Nat, v = some (.int (qa_nt (upd a 7 (if v1 ≤ a 2 then 1 else 0)) nb).1) ∧ qu_I D h' ow' q ad sz (upd ((qa_nt (upd a 7 (if v1 ≤ a 2 then 1 else 0)) nb).2) 4 (((qa_nt (upd a 7 (if v1 ≤ a 2 then 1 else 0)) nb).2) 4 + 1)) nb no ∧ qu_F q h ow h' ow')) ([.ref q, .int v1] : List Value).toArray s 1 4 (fun q => b0 ≤ q)) 1 4 hc [(0, .ref q), (1, .int v1), (2, .int (qa_nt (upd a 7 (if v1 ≤ a 2 then 1 else 0)) i).1), (3, .ref it)] 31 [] := by
      intro n
      induction n with
      | zero =>
        intro i lr hc h1 h2 hS
        exact absurd h2 (by omega)
      | succ n ih =>
        intro i lr hc h1 h2 hS
        obtain ⟨hQc, hFc, hnn, mcL, ar, cap, f, hI, hLx, hoit⟩ := id hS
        have hel : ∀ i : Nat, i < nb → f i = some (ad (10 + i)) := hLx.2.2.2.2.2
        have hcap : cap ≤ 100 := hLx.2.2.2.1
        have hwS : wfn ((qa_nt (upd a 7 (if v1 ≤ a 2 then 1 else 0)) i).2) nb no := wfn.nt hw1 i h1
        first | refine zz_aload_n C dX1_night_31 rfl ?_ | refine zz_aload_nN C dX1_night_31 rfl ?_
        refine zz_callF (x2 := ⟨"java/util/Iterator", "hasNext", "()Z"⟩) C zy_J9_hasNext (ct_J9_hasNext (by omega) (by omega) hI hLx.1) rfl q361 q365 q367 nif_6 nid_6 hI rfl rfl rfl rfl rfl rfl dX1_night_32 ⟨Nat.le_of_ble_eq_true rfl, Nat.le_of_ble_eq_true rfl⟩ (fun v hz hp => ?_)
        obtain ⟨rfl, ez⟩ := hp
        obtain rfl := ez.symm
        first | refine zz_ifb_eq (tgt := 134) C dX1_night_37 (by decide) (fun c37 => ?_) (fun c37 => ?_) | refine zz_if_eq (tgt := 134) C dX1_night_37 (by decide) (fun c37 => ?_) (fun c37 => ?_)
        · obtain rfl : nb = i := by
            have := of_decide_eq_false c37
            omega
          first | refine zz_aload_n C dX1_night_134 rfl ?_ | refine zz_aload_nN C dX1_night_134 rfl ?_
          refine zz_dup C dX1_night_135 rfl ?_
          refine zz_get C rfl hS.1.gq rfl in_X1 8 rfl q189 (fun _ h => h) (by first | rfl | assumption) dX1_night_136 ?_
          refine zz_iconst (v := 1) C dX1_night_139 (by decide) ?_
          refine zz_iadd C dX1_night_140 ?_
          refine zz_put C rfl hS.1.gq rfl in_X1 tyX1 tyX1_ok nmX1 8 rfl q189 (fun _ h => h) rfl (tyX1_ok 8 (by decide)) (by first | rfl | exact zz_narZ (by first | exact zz_b01 _ | assumption | decide)) rfl (Nat.le_of_ble_eq_true rfl) dX1_night_141 ?_
          refine zz_gen (P := fun h' => qu_I D h' (fun y => if y = it then (it, 98) else ow y) q ad sz (upd ((qa_nt (upd a 7 (if v1 ≤ a 2 then 1 else 0)) nb).2) 4 (((qa_nt (upd a 7 (if v1 ≤ a 2 then 1 else 0)) nb).2) 4 + 1)) nb no ∧ qu_F q h ow h' (fun y => if y = it then (it, 98) else ow y)) ⟨hS.1.wq4 hnb hno, (hG.F.tr hS.2.1).tr (qu_F.up (by rw [hS.1.oq]))⟩ (fun hz hP => ?_)
          obtain ⟨hQ, hF⟩ := hP
          refine zz_iload_n C dX1_night_144 rfl ?_
          refine zz_iret C dX1_night_145 (by first | rfl | exact Nat.ble_eq.mpr (by omega)) (by first | rfl | exact Nat.ble_eq.mpr (by omega)) ?_
          exact ⟨_, rfl, hQ, hF⟩
        · have hi2 : i < nb := of_decide_eq_true c37
          first | refine zz_aload_n C dX1_night_40 rfl ?_ | refine zz_aload_nN C dX1_night_40 rfl ?_
          refine zz_callF (x2 := ⟨"java/util/Iterator", "next", "()Ljava/lang/Object;"⟩) C zy_J9_next (ct_J9_next hi2 hLx.2.2.1 (hel i hi2) hI hLx.1 (hLx.T hi2) (by omega)) rfl q371 q374 q376 nif_7 nid_7 hI rfl rfl rfl rfl rfl rfl dX1_night_41 ⟨Nat.le_of_ble_eq_true rfl, Nat.le_of_ble_eq_true rfl⟩ (fun v hz hp => ?_)
          obtain ⟨rfl, ez⟩ := hp
          obtain rfl := ez.symm
          refine zz_gen (P := fun h' => lp_I D hy ow h' (fun y => if y = it then (it, 98) else ow y) q ad sz ((qa_nt (upd a 7 (if v1 ≤ a 2 then 1 else 0)) i).2) nb no it (i + 1) (nI i)) (hS.nx hI) (fun hz hS => ?_)
          have hQ := hS.1
          refine zz_cast C rfl (hQ.gb hi2) rfl q383 (by first | exact Or.inl rfl | exact Or.inr (by decide +kernel)) dX1_night_46 ?_
          refine zz_astore C dX1_night_49 (by decide) ?_
          refine zz_joinI (pcJ := 72) (zz_b (qa_cr ((qa_nt (upd a 7 (if v1 ≤ a 2 then 1 else 0)) i).2) i)) ?_ ?_
          · rintro z72 rfl
            refine zz_istore C dX1_night_72 (by decide) ?_
            first | refine zz_aload C dX1_night_74 rfl ?_ | refine zz_aloadN C dX1_night_74 rfl ?_
            refine zz_dup C dX1_night_76 rfl ?_
            refine zz_getN C rfl (hQ.gb hi2) rfl in_X3 8 rfl (nst_31 C) (fun _ h => h) (by first | rfl | assumption) dX1_night_77 ?_
            refine zz_iload C dX1_night_80 rfl ?_
            refine zz_ior C dX1_night_82 ?_
            rw [qa_cr_or]
            have h02 : (if qa_cr ((qa_nt (upd a 7 (if v1 ≤ a 2 then 1 else 0)) i).2) i = true then (1 : Int32) else ((qa_nt (upd a 7 (if v1 ≤ a 2 then 1 else 0)) i).2) (12 + 10 * i + 6)) = 0 ∨ (if qa_cr ((qa_nt (upd a 7 (if v1 ≤ a 2 then 1 else 0)) i).2) i = true then (1 : Int32) else ((qa_nt (upd a 7 (if v1 ≤ a 2 then 1 else 0)) i).2) (12 + 10 * i + 6)) = 1 := qa_n1_01 hwS hi2
            refine zz_putN C rfl (hQ.gb hi2) rfl in_X3 tyX3 tyX3_ok nmX3 8 rfl (nst_31 C) (fun _ h => h) rfl (tyX3_ok 8 (by decide)) (by first | rfl | exact zz_narZ (by first | exact zz_b01 _ | assumption | decide)) (by first | exact zz_fitZ _ | rfl | exact zz_fit01 (by assumption)) (Nat.le_of_ble_eq_true rfl) dX1_night_83 ?_
            refine zz_gen (P := fun h' => lp_I D hy ow h' (fun y => if y = it then (it, 98) else ow y) q ad sz (qa_n1 ((qa_nt (upd a 7 (if v1 ≤ a 2 then 1 else 0)) i).2) i) nb no it (i + 1) (nI i)) (hS.up (hQ.wb6 hi2 hnb) (qu_G.up (hQ.owb hi2) (Or.inr (by omega)))) (fun hz hS => ?_)
            have hQ := hS.1
            refine zz_iload_n C dX1_night_86 rfl ?_
            refine zz_joinI (pcJ := 97) (zz_b (qa_cr ((qa_nt (upd a 7 (if v1 ≤ a 2 then 1 else 0)) i).2) i)) ?_ ?_
            · rintro z97 rfl
              refine zz_iadd C dX1_night_97 ?_
              refine zz_istore_n C dX1_night_98 (by decide) ?_
              first | refine zz_aload C dX1_night_99 rfl ?_ | refine zz_aloadN C dX1_night_99 rfl ?_
              refine zz_joinI (pcJ := 128) ((qa_n1 ((qa_nt (upd a 7 (if v1 ≤ a 2 then 1 else 0)) i).2) i) (12 + 10 * i + 5) - (if qa_dry (qa_n1 ((qa_nt (upd a 7 (if v1 ≤ a 2 then 1 else 0)) i).2) i) i = true then 1 else 0)) ?_ ?_
              · rintro z128 rfl
                refine zz_putN C rfl (hQ.gb hi2) rfl in_X3 tyX3 tyX3_ok nmX3 5 rfl (nst_25 C) (fun _ h => h) rfl (tyX3_ok 5 (by decide)) (by first | rfl | exact zz_narZ (by first | exact zz_b01 _ | assumption | decide)) rfl (Nat.le_of_ble_eq_true rfl) dX1_night_128 ?_
                refine zz_gen (P := fun h' => lp_I D hy ow h' (fun y => if y = it then (it, 98) else ow y) q ad sz ((qa_nt (upd a 7 (if v1 ≤ a 2 then 1 else 0)) (i + 1)).2) nb no it (i + 1) (nI i)) (hS.up (hQ.wb5 hi2 hnb) (qu_G.up (hQ.owb hi2) (Or.inr (by omega)))) (fun hz hS => ?_)
                have hQ := hS.1
                refine zz_goto (tgt := 31) C dX1_night_131 (by decide) ?_
                exact zz_loc2 (ih (i + 1) (nI i) hz (by omega) (by omega) hS) ⟨rfl, rfl, rfl, rfl, trivial⟩
              · intro J128
                first | refine zz_aload C dX1_night_101 rfl ?_ | refine zz_aloadN C dX1_night_101 rfl ?_
                refine zz_callV C zy_X3_isHere (ct_X3_isHere (hQ.gb hi2)) rfl q707 (hQ.gb hi2) rfl rfl rfl rfl rfl rfl dX1_night_103 ⟨Nat.le_of_ble_eq_true rfl, Nat.le_of_ble_eq_true rfl⟩ (fun v hz hp => ?_)
                obtain ⟨rfl, ez⟩ := hp
                obtain rfl := ez.symm
                first | refine zz_ifb_eq (tgt := 123) C dX1_night_106 (by decide) (fun c106 => ?_) (fun c106 => ?_) | refine zz_if_eq (tgt := 123) C dX1_night_106 (by decide) (fun c106 => ?_) (fun c106 => ?_)
                · first | refine zz_aload C dX1_night_123 rfl ?_ | refine zz_aloadN C dX1_night_123 rfl ?_
                  refine zz_getN C rfl (hQ.gb hi2) rfl in_X3 5 rfl (nst_25 C) (fun _ h => h) (by first | rfl | assumption) dX1_night_125 ?_
                  exact J128 _ (by first | exact (qa_n1_wfn hwS hi2).dry hi2 c106 | exact (qa_n1_wfn hwS hi2).ndry hi2 c106)
                · refine zz_iconst (v := 0) C dX1_night_109 (by decide) ?_
                  first | refine zz_aload C dX1_night_110 rfl ?_ | refine zz_aloadN C dX1_night_110 rfl ?_
                  refine zz_getN C rfl (hQ.gb hi2) rfl in_X3 5 rfl (nst_25 C) (fun _ h => h) (by first | rfl | assumption) dX1_night_112 ?_
                  refine zz_iconst (v := 1) C dX1_night_115 (by decide) ?_
                  refine zz_isub C dX1_night_116 ?_
                  refine zz_mmax C rfl q818 dX1_night_117 rfl rfl rfl (by show (_ : Nat) ≤ 1; omega) (by show (_ : Nat) ≤ 4; omega) ?_
                  refine zz_goto (tgt := 128) C dX1_night_120 (by decide) ?_
                  exact J128 _ (by first | exact (qa_n1_wfn hwS hi2).dry hi2 c106 | exact (qa_n1_wfn hwS hi2).ndry hi2 c106)
            · intro J97
              refine zz_iload C dX1_night_87 rfl ?_
              first | refine zz_ifb_eq (tgt := 96) C dX1_night_89 (by decide) (fun c89 => ?_) (fun c89 => ?_) | refine zz_if_eq (tgt := 96) C dX1_night_89 (by decide) (fun c89 => ?_) (fun c89 => ?_)
              · refine zz_iconst (v := 0) C dX1_night_96 (by decide) ?_
                exact J97 _ (by first | exact zz_bt c89 | exact zz_bf c89)
              · refine zz_iconst (v := 1) C dX1_night_92 (by decide) ?_
                refine zz_goto (tgt := 97) C dX1_night_93 (by decide) ?_
                exact J97 _ (by first | exact zz_bt c89 | exact zz_bf c89)
          · intro J72
            first | refine zz_aload_n C dX1_night_51 rfl ?_ | refine zz_aload_nN C dX1_night_51 rfl ?_
            refine zz_get C rfl hQ.gq rfl in_X1 7 rfl q187 (fun _ h => h) (by first | rfl | assumption) dX1_night_52 ?_
            refine zz_if_eq (tgt := 71) C dX1_night_55 (by decide) (fun c55 => ?_) (fun c55 => ?_)
            · refine zz_iconst (v := 0) C dX1_night_71 (by decide) ?_
              exact J72 _ (by first | (rw [qa_cr, c55]; rfl) | (rw [qa_cr, (hwS.2.2.2.2.1.2.2.2.2).resolve_left c55, show qa_wc ((qa_nt (upd a 7 (if v1 ≤ a 2 then 1 else 0)) i).2) i = false from c64]; rfl) | (rw [qa_cr, (hwS.2.2.2.2.1.2.2.2.2).resolve_left c55, show qa_wc ((qa_nt (upd a 7 (if v1 ≤ a 2 then 1 else 0)) i).2) i = true from c64]; rfl))
            · first | refine zz_aload_n C dX1_night_58 rfl ?_ | refine zz_aload_nN C dX1_night_58 rfl ?_
              first | refine zz_aload C dX1_night_59 rfl ?_ | refine zz_aloadN C dX1_night_59 rfl ?_
              refine zz_callV C zy_X1_isCracking (ct_X1_isCracking (hQ.gb hi2)) rfl q814 hQ.gq rfl rfl rfl rfl rfl rfl dX1_night_61 ⟨Nat.le_of_ble_eq_true rfl, Nat.le_of_ble_eq_true rfl⟩ (fun v hz hp => ?_)
              obtain ⟨rfl, ez⟩ := hp
              obtain rfl := ez.symm
              first | refine zz_ifb_eq (tgt := 71) C dX1_night_64 (by decide) (fun c64 => ?_) (fun c64 => ?_) | refine zz_if_eq (tgt := 71) C dX1_night_64 (by decide) (fun c64 => ?_) (fun c64 => ?_)
              · refine zz_iconst (v := 0) C dX1_night_71 (by decide) ?_
                exact J72 _ (by first | (rw [qa_cr, c55]; rfl) | (rw [qa_cr, (hwS.2.2.2.2.1.2.2.2.2).resolve_left c55, show qa_wc ((qa_nt (upd a 7 (if v1 ≤ a 2 then 1 else 0)) i).2) i = false from c64]; rfl) | (rw [qa_cr, (hwS.2.2.2.2.1.2.2.2.2).resolve_left c55, show qa_wc ((qa_nt (upd a 7 (if v1 ≤ a 2 then 1 else 0)) i).2) i = true from c64]; rfl))
              · refine zz_iconst (v := 1) C dX1_night_67 (by decide) ?_
                refine zz_goto (tgt := 72) C dX1_night_68 (by decide) ?_
                exact J72 _ (by first | (rw [qa_cr, c55]; rfl) | (rw [qa_cr, (hwS.2.2.2.2.1.2.2.2.2).resolve_left c55, show qa_wc ((qa_nt (upd a 7 (if v1 ≤ a 2 then 1 else 0)) i).2) i = false from c64]; rfl) | (rw [qa_cr, (hwS.2.2.2.2.1.2.2.2.2).resolve_left c55, show qa_wc ((qa_nt (upd a 7 (if v1 ≤ a 2 then 1 else 0)) i).2) i = true from c64]; rfl))
    exact zz_loc2 (L31 (nb + 1) 0 (-1) _ (by omega) (by omega) hS0) ⟨rfl, rfl, rfl, rfl, trivial⟩
  · intro J16
    refine zz_iload_n C dX1_night_1 rfl ?_
    first | refine zz_aload_n C dX1_night_2 rfl ?_ | refine zz_aload_nN C dX1_night_2 rfl ?_
    refine zz_get C rfl hQ.gq rfl in_X1 0 rfl q173 (fun _ h => h) (by first | rfl | assumption) dX1_night_3 ?_
    refine zz_iconst (v := nI 2) C dX1_night_6 (by decide) ?_
    refine zz_iald C hfs rfl (by omega) (by omega) dX1_night_7 ?_
    rw [es 2 (by decide)]
    refine zz_icmp_gt (tgt := 15) C dX1_night_8 (by decide) (fun c8 => ?_) (fun c8 => ?_)
    · refine zz_iconst (v := 0) C dX1_night_15 (by decide) ?_
      exact J16 _ (by first | exact (if_pos (Int32.not_lt.mp c8)).symm | exact (if_neg (Int32.not_le.mpr c8)).symm)
    · refine zz_iconst (v := 1) C dX1_night_11 (by decide) ?_
      refine zz_goto (tgt := 16) C dX1_night_12 (by decide) ?_
      exact J16 _ (by first | exact (if_pos (Int32.not_lt.mp c8)).symm | exact (if_neg (Int32.not_le.mpr c8)).symm)

