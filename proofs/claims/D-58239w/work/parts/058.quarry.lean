theorem zz_bor (b c : Bool) : zz_b b ||| zz_b c = zz_b (b || c) := by cases b <;> cases c <;> rfl
/-! the quarry: what is read -/
theorem qa_pos {n : Nat} (h : n < 2 ^ 31) : ¬ nI n < (0 : Int32) := nI_pos h
/-- may be given away, as the component asks it -/
def ca_can (a : Nat → Int32) (b : Nat) : Bool := decide (a (12 + 10 * b + 4) ≤ 2) && decide (a (12 + 10 * b + 7) < 0) && decide (a (12 + 10 * b + 6) = 0)
def qa_ov (a : Nat → Int32) (o b : Nat) : Int32 := if qa_free a b = true then qa_excOf a o b else -6
theorem wfn.b {a : Nat → Int32} {nb no : Nat} (h : wfn a nb no) {b : Nat} (hb : b < nb) : wB no (fun k => a (12 + 10 * b + k)) := h.2.2.2.2.2.1 b hb
theorem wfn.w4 {a : Nat → Int32} {nb no : Nat} (h : wfn a nb no) {b : Nat} (hb : b < nb) : ∃ w : Nat, w ≤ 4 ∧ a (12 + 10 * b + 4) = nI w := (h.b hb).2.2.1
theorem wfn.c6 {a : Nat → Int32} {nb no : Nat} (h : wfn a nb no) {b : Nat} (hb : b < nb) : a (12 + 10 * b + 6) = 0 ∨ a (12 + 10 * b + 6) = 1 := (h.b hb).2.2.2.2.1
theorem wfn.o7 {a : Nat → Int32} {nb no : Nat} (h : wfn a nb no) {b : Nat} (hb : b < nb) : a (12 + 10 * b + 7) = -6 ∨ ∃ o : Nat, o < no ∧ a (12 + 10 * b + 7) = nI o := (h.b hb).2.2.2.2.2.1
theorem qa_free_e {a : Nat → Int32} {nb no : Nat} (h : wfn a nb no) {b : Nat} (hb : b < nb) : qa_free a b = (decide (a (12 + 10 * b + 4) ≤ 2) && decide (a (12 + 10 * b + 7) < 0)) := by
  have h10 := h.2.1
  have e4 : (!decide (a (12 + 10 * b + 4) = 3) && !decide (a (12 + 10 * b + 4) = 4)) = decide (a (12 + 10 * b + 4) ≤ 2) := by
    obtain ⟨w, hw, e⟩ := h.w4 hb
    rw [e]
    exact (show ∀ w : Nat, w ≤ 4 → (!decide (nI w = 3) && !decide (nI w = 4)) = decide (nI w ≤ 2) from by decide) w hw
  have e7 : decide (a (12 + 10 * b + 7) = -6) = decide (a (12 + 10 * b + 7) < 0) := by
    rcases h.o7 hb with e | ⟨o, ho, e⟩
    · rw [e]; decide
    · rw [e]
      have h1 : ¬ nI o = (-6 : Int32) := qa_n6 (by omega)
      have h2 : ¬ nI o < (0 : Int32) := nI_pos (by omega)
      rw [decide_eq_false h1, decide_eq_false h2]
  unfold qa_free
  rw [Bool.and_assoc, e4, e7, Bool.and_comm]
theorem qa_ov_t {a : Nat → Int32} {nb no : Nat} (h : wfn a nb no) {o b : Nat} (hb : b < nb) (hc : ca_can a b = true) : qa_ov a o b = qa_exc a o (a (12 + 10 * b)) (a (12 + 10 * b + 1)) (a (12 + 10 * b + 2)) := by
  unfold ca_can at hc
  rw [← qa_free_e h hb, Bool.and_eq_true, decide_eq_true_eq] at hc
  unfold qa_ov qa_excOf
  rw [if_pos hc.1, hc.2, if_neg (by decide)]
theorem qa_ov_f {a : Nat → Int32} {nb no : Nat} (h : wfn a nb no) {o b : Nat} (hb : b < nb) (hc : ca_can a b = false) : qa_ov a o b = -6 := by
  unfold ca_can at hc
  rw [← qa_free_e h hb] at hc
  unfold qa_ov qa_excOf
  split
  · rename_i hf
    rw [hf, Bool.true_and, decide_eq_false_iff_not] at hc
    rw [if_pos ((h.c6 hb).resolve_left hc)]
  · rfl
theorem qa_exc_c {a : Nat → Int32} {nb no : Nat} (h : wfn a nb no) (o : Nat) (x y z : Int32) : qa_exc a o x y z = -6 ∨ ∃ k : Nat, k ≤ 90 ∧ qa_exc a o x y z = nI k := by
  obtain ⟨t, ht, e3⟩ := h.2.2.2.2.1.2.2.1
  have hs : ∀ n : Nat, qa_fit a o x y z n = true → ∃ k : Nat, k ≤ 30 * n ∧ qa_sum (qa_more a o x y z) n = nI k := by
    intro n
    induction n with
    | zero => exact fun _ => ⟨0, by omega, rfl⟩
    | succ n ih =>
      intro hf
      have hf : (qa_fit a o x y z n && qa_in (qa_more a o x y z n) 0 (a 3)) = true := hf
      rw [Bool.and_eq_true] at hf
      obtain ⟨k, hk, e⟩ := ih hf.1
      have h2 := hf.2
      rw [e3] at h2
      obtain ⟨j, hj, e2⟩ := qa_ixk t (by omega) h2
      exact ⟨k + j, by omega, by show qa_sum _ n + _ = _; rw [e, e2, nI_add]⟩
  unfold qa_exc
  split
  · rename_i hf
    obtain ⟨k, hk, e⟩ := hs 3 hf
    exact Or.inr ⟨k, by omega, e⟩
  · exact Or.inl rfl
theorem qa_excOf_c {a : Nat → Int32} {nb no : Nat} (h : wfn a nb no) (o b : Nat) : qa_excOf a o b = -6 ∨ ∃ k : Nat, k ≤ 90 ∧ qa_excOf a o b = nI k := by
  unfold qa_excOf
  split
  · exact Or.inl rfl
  · exact qa_exc_c h o _ _ _
theorem qa_ov_c {a : Nat → Int32} {nb no : Nat} (h : wfn a nb no) (o b : Nat) : qa_ov a o b = -6 ∨ ∃ k : Nat, k ≤ 90 ∧ qa_ov a o b = nI k := by
  unfold qa_ov
  split
  · exact qa_excOf_c h o b
  · exact Or.inl rfl
theorem qa_ov_lt {a : Nat → Int32} {nb no : Nat} (h : wfn a nb no) (o b : Nat) (hlt : qa_ov a o b < 0) : (qa_free a b && !decide (qa_excOf a o b = -6)) = false := by
  unfold qa_ov at hlt
  split at hlt
  · rename_i hf
    rcases qa_excOf_c h o b with e | ⟨k, hk, e⟩
    · rw [hf, e]; rfl
    · rw [e] at hlt
      exact absurd hlt (nI_pos (by omega))
  · rename_i hf
    rw [Bool.not_eq_true _ |>.mp hf]; rfl
theorem qa_ov_ge {a : Nat → Int32} {nb no : Nat} (h : wfn a nb no) (o b : Nat) (hlt : ¬ qa_ov a o b < 0) : (qa_free a b && !decide (qa_excOf a o b = -6)) = true := by
  unfold qa_ov at hlt
  split at hlt
  · rename_i hf
    rw [hf, Bool.true_and]
    by_cases e : qa_excOf a o b = -6
    · rw [e] at hlt
      exact absurd (by decide) hlt
    · rw [decide_eq_false e]; rfl
  · exact absurd (by decide) hlt
/-- the best block for an order, looked for from the first one on: which, and by how much it is more -/
def ca_bb (a : Nat → Int32) (o : Nat) : Nat → Int32 × Int32
  | 0 => (-6, 0)
  | n + 1 => if 0 ≤ qa_ov a o n ∧ ((ca_bb a o n).1 < 0 ∨ qa_ov a o n < (ca_bb a o n).2) then (nI n, qa_ov a o n) else ca_bb a o n
def ca_be (a : Nat → Int32) (o n : Nat) : Bool := decide (0 ≤ qa_ov a o n) && (decide ((ca_bb a o n).1 < 0) || decide (qa_ov a o n < (ca_bb a o n).2))
theorem ca_be_1 (a : Nat → Int32) (o n : Nat) : (ca_bb a o (n + 1)).1 = if ca_be a o n = true then nI n else (ca_bb a o n).1 := by
  have e : (0 ≤ qa_ov a o n ∧ ((ca_bb a o n).1 < 0 ∨ qa_ov a o n < (ca_bb a o n).2)) ↔ ca_be a o n = true := by simp [ca_be]
  show (if 0 ≤ qa_ov a o n ∧ _ then _ else _ : Int32 × Int32).1 = _
  by_cases hh : ca_be a o n = true
  · rw [if_pos (e.mpr hh), if_pos hh]
  · rw [if_neg (fun q => hh (e.mp q)), if_neg hh]
theorem ca_be_2 (a : Nat → Int32) (o n : Nat) : (ca_bb a o (n + 1)).2 = if ca_be a o n = true then qa_ov a o n else (ca_bb a o n).2 := by
  have e : (0 ≤ qa_ov a o n ∧ ((ca_bb a o n).1 < 0 ∨ qa_ov a o n < (ca_bb a o n).2)) ↔ ca_be a o n = true := by simp [ca_be]
  show (if 0 ≤ qa_ov a o n ∧ _ then _ else _ : Int32 × Int32).2 = _
  by_cases hh : ca_be a o n = true
  · rw [if_pos (e.mpr hh), if_pos hh]
  · rw [if_neg (fun q => hh (e.mp q)), if_neg hh]
theorem ct_X1_in {l : Launch} {D : va_G} {b0 : Nat} {h : zz_H} {q : Nat} {ow : Nat → Nat × Nat} {ad sz : Nat → Nat} {a : Nat → Int32} {nb no : Nat} (hnb : nb ≤ 24) (hQ : qu_I D h ow q ad sz a nb no) {v1 : Int32}  : zz_Ct l D b0 yX1_in cX1_in 5 (some .int) 3 61 1 4 [.ref q, .int v1] h (fun v h' => v = some (.int (qa_or (fun b => decide (a (12 + 10 * b + 4) = v1)) nb)) ∧ h' = h) := by
  refine zz_Ct.of zy_X1_in.1 rfl ?_
  intro p e s m below meth c C
  obtain ⟨mcL, ar, cap, f, hLx⟩ := hQ.gL
  have hq := hQ.gq
  have hL := hLx.1
  have hel : ∀ i : Nat, i < nb → f i = some (ad (10 + i)) := hLx.2.2.2.2.2
  have hnc : nb ≤ cap := hLx.2.2.1
  have hcap : cap ≤ 100 := hLx.2.2.2.1
  refine zz_iconst (v := 0) C dX1_in_0 (by decide) ?_
  refine zz_istore_n C dX1_in_1 (by decide) ?_
  first | refine zz_aload_n C dX1_in_2 rfl ?_ | refine zz_aload_nN C dX1_in_2 rfl ?_
  refine zz_get C rfl hq rfl in_X1 5 rfl q183 (fun _ h => h) (by first | rfl | assumption) dX1_in_3 ?_
  refine zz_callF (x2 := ⟨"java/util/List", "iterator", "()Ljava/util/Iterator;"⟩) C zy_J2_iterator (ct_J2_iterator (by assumption)) rfl q333 q336 q338 nif_2 nid_2 hL rfl rfl rfl rfl rfl rfl dX1_in_6 ⟨Nat.le_of_ble_eq_true rfl, Nat.le_of_ble_eq_true rfl⟩ (fun v hz hp => ?_)
  obtain ⟨it, rfl, hit, hitb, ez⟩ := hp
  obtain rfl := ez.symm
  refine zz_astore_n C dX1_in_11 (by decide) ?_
  have L12 : ∀ (n : Nat) (i : Nat) (lr : Int32), i ≤ nb → nb + 1 ≤ i + n → zz_V D b0 5 p l e ({ frames := 3, cells := 1, slots := 4, locals := 61 } : Jvm.Room) s m ([.ref q, .int v1] : List Value).toArray below meth c (MQ below (zz_Q D b0 (fun v h' => v = some (.int (qa_or (fun b => decide (a (12 + 10 * b + 4) = v1)) nb)) ∧ h' = h)) ([.ref q, .int v1] : List Value).toArray s 1 4 (fun q => b0 ≤ q)) 1 4 (zz_up h it (it_F i lr mcL (ad 6))) [(0, .ref q), (1, .int v1), (2, .int (qa_or (fun b => decide (a (12 + 10 * b + 4) = v1)) i)), (3, .ref it)] 12 [] := by
    intro n
    induction n with
    | zero =>
      intro i lr h1 h2
      exact absurd h2 (by omega)
    | succ n ih =>
      intro i lr h1 h2
      first | refine zz_aload_n C dX1_in_12 rfl ?_ | refine zz_aload_nN C dX1_in_12 rfl ?_
      refine zz_callF (x2 := ⟨"java/util/Iterator", "hasNext", "()Z"⟩) C zy_J9_hasNext (ct_J9_hasNext (by omega) (by omega) zz_us (zz_uf hL hit)) rfl q361 q365 q367 nif_6 nid_6 zz_us rfl rfl rfl rfl rfl rfl dX1_in_13 ⟨Nat.le_of_ble_eq_true rfl, Nat.le_of_ble_eq_true rfl⟩ (fun v hz hp => ?_)
      obtain ⟨rfl, ez⟩ := hp
      obtain rfl := ez.symm
      first | refine zz_ifb_eq (tgt := 58) C dX1_in_18 (by decide) (fun c18 => ?_) (fun c18 => ?_) | refine zz_if_eq (tgt := 58) C dX1_in_18 (by decide) (fun c18 => ?_) (fun c18 => ?_)
      · obtain rfl : i = nb := by
          have := of_decide_eq_false c18
          omega
        refine zz_wk (h' := h) (fun x e hx => zz_uf hx hit) ?_
        refine zz_iload_n C dX1_in_58 rfl ?_
        refine zz_iret C dX1_in_59 rfl rfl ?_
        exact ⟨rfl, rfl⟩
      · have hi2 : i < nb := of_decide_eq_true c18
        first | refine zz_aload_n C dX1_in_21 rfl ?_ | refine zz_aload_nN C dX1_in_21 rfl ?_
        refine zz_callF (x2 := ⟨"java/util/Iterator", "next", "()Ljava/lang/Object;"⟩) C zy_J9_next (ct_J9_next hi2 hnc (hel i hi2) zz_us (zz_uf hL hit) (zz_uf (hLx.T hi2) hit) (by omega)) rfl q371 q374 q376 nif_7 nid_7 zz_us rfl rfl rfl rfl rfl rfl dX1_in_22 ⟨Nat.le_of_ble_eq_true rfl, Nat.le_of_ble_eq_true rfl⟩ (fun v hz hp => ?_)
        obtain ⟨rfl, ez⟩ := hp
        rw [zz_upup] at ez
        obtain rfl := ez.symm
        have hbi : (zz_up h it (it_F (i + 1) (nI i) mcL (ad 6))) (ad (10 + i)) = some (bl_F a i (sz i)) := zz_uf (hQ.gb hi2) hit
        have hzi : (zz_up h it (it_F (i + 1) (nI i) mcL (ad 6))) (sz i) = some (bs_F a i) := zz_uf (hQ.gz hi2) hit
        refine zz_cast C rfl hbi rfl q383 (by first | exact Or.inl rfl | exact Or.inr (by decide +kernel)) dX1_in_27 ?_
        refine zz_astore C dX1_in_30 (by decide) ?_
        refine zz_iload_n C dX1_in_32 rfl ?_
        refine zz_joinI (pcJ := 53) (if decide (a (12 + 10 * i + 4) = v1) = true then (1 : Int32) <<< (nI i &&& 31) else 0) ?_ ?_
        · rintro z53 rfl
          refine zz_ior C dX1_in_53 ?_
          refine zz_istore_n C dX1_in_54 (by decide) ?_
          refine zz_goto (tgt := 12) C dX1_in_55 (by decide) ?_
          exact zz_loc2 (ih (i + 1) (nI i) (by omega) (by omega)) ⟨rfl, rfl, rfl, rfl, trivial⟩
        · intro J53
          first | refine zz_aload C dX1_in_33 rfl ?_ | refine zz_aloadN C dX1_in_33 rfl ?_
          refine zz_getN C rfl hbi rfl in_X3 4 rfl (nst_23 C) (fun _ h => h) (by first | rfl | assumption) dX1_in_35 ?_
          refine zz_iload_n C dX1_in_38 rfl ?_
          refine zz_icmp_ne (tgt := 52) C dX1_in_39 (by decide) (fun c39 => ?_) (fun c39 => ?_)
          · refine zz_iconst (v := 0) C dX1_in_52 (by decide) ?_
            exact J53 _ (by first | exact zz_ift (decide_eq_true c39) | exact zz_iff (decide_eq_false c39))
          · refine zz_iconst (v := 1) C dX1_in_42 (by decide) ?_
            first | refine zz_aload C dX1_in_43 rfl ?_ | refine zz_aloadN C dX1_in_43 rfl ?_
            refine zz_getN C rfl hbi rfl in_X3 0 rfl (nst_16 C) (fun _ h => h) (by first | rfl | assumption) dX1_in_45 ?_
            refine zz_ishl C dX1_in_48 ?_
            refine zz_goto (tgt := 53) C dX1_in_49 (by decide) ?_
            exact J53 _ (by first | exact zz_ift (decide_eq_true c39) | exact zz_iff (decide_eq_false c39))
  exact zz_loc2 (L12 (nb + 1) 0 (-1) (by omega) (by omega)) ⟨rfl, rfl, rfl, rfl, trivial⟩

theorem ct_X1_roofed {l : Launch} {D : va_G} {b0 : Nat} {h : zz_H} {q : Nat} {ow : Nat → Nat × Nat} {ad sz : Nat → Nat} {a : Nat → Int32} {nb no : Nat} (hnb : nb ≤ 24) (hQ : qu_I D h ow q ad sz a nb no)  : zz_Ct l D b0 yX1_roofed cX1_roofed 1 (some .int) 4 85 1 4 [.ref q] h (fun v h' => v = some (.int (nI (qa_cnt (fun b => decide (a (12 + 10 * b + 4) = 1)) nb))) ∧ h' = h) := by
  refine zz_Ct.of zy_X1_roofed.1 rfl ?_
  intro p e s m below meth c C
  have hq := hQ.gq
  first | refine zz_aload_n C dX1_roofed_0 rfl ?_ | refine zz_aload_nN C dX1_roofed_0 rfl ?_
  refine zz_iconst (v := 1) C dX1_roofed_1 (by decide) ?_
  refine zz_callV C zy_X1_in (ct_X1_in hnb hQ) rfl q648 (by first | assumption | exact zz_us | exact zz_lk1 (by assumption) (by assumption) | exact zz_lk3 (hd _ _ (by decide) (by decide) (by decide)) (by assumption) | exact zz_uf (by assumption) (by assumption) | exact zz_lk3 (zz_xi (by assumption) (by assumption)) (zz_lk1 (by assumption) (by assumption)) | exact zz_lk3 (hd _ _ (by decide) (by decide) (by decide)) (zz_lk3 (hd _ _ (by decide) (by decide) (by decide)) (by assumption)) | (simp only [zz_up]; simp_all; done)) rfl rfl rfl rfl rfl rfl dX1_roofed_2 ⟨Nat.le_of_ble_eq_true rfl, Nat.le_of_ble_eq_true rfl⟩ (fun v hz hp => ?_)
  obtain ⟨rfl, ez⟩ := hp
  obtain rfl := ez.symm
  refine zz_callS C zy_J14_bitCount (ct_J14_bitCount (fun b => decide (a (12 + 10 * b + 4) = 1)) nb hnb rfl) rfl q652 rfl rfl rfl rfl rfl dX1_roofed_5 ⟨Nat.le_of_ble_eq_true rfl, Nat.le_of_ble_eq_true rfl⟩ (fun v hz hp => ?_)
  obtain ⟨rfl, ez⟩ := hp
  obtain rfl := ez.symm
  refine zz_iret C dX1_roofed_8 rfl rfl ?_
  exact ⟨rfl, rfl⟩

theorem ct_X1_leavesRest {l : Launch} {D : va_G} {b0 : Nat} {h : zz_H} {q : Nat} {ow : Nat → Nat × Nat} {ad sz : Nat → Nat} {a : Nat → Int32} {nb no : Nat} (hwf : wfn a nb no) (hQ : qu_I D h ow q ad sz a nb no) {b k : Nat} {v2 v3 : Int32} (hb : b < nb) (hv2 : v2 = nI k) (hk : k < 3)  : zz_Ct l D b0 yX1_leavesRest cX1_leavesRest 4 (some .boolean) 1 21 0 0 [.ref q, .ref (ad (10 + b)), .int v2, .int v3] h (fun v h' => v = some (.int (zz_b (decide (1 ≤ qa_rest a b k v3)))) ∧ h' = h) := by
  refine zz_Ct.of zy_X1_leavesRest.1 rfl ?_
  intro p e s m below meth c C
  have hq := hQ.gq
  obtain ⟨fs, hfs, es⟩ := hQ.gs
  first | refine zz_aload_n C dX1_leavesRest_0 rfl ?_ | refine zz_aload_nN C dX1_leavesRest_0 rfl ?_
  refine zz_getN C rfl (hQ.gb hb) rfl in_X3 1 rfl (nst_18 C) (fun _ h => h) (by first | rfl | assumption) dX1_leavesRest_1 ?_
  refine zz_iload_n C dX1_leavesRest_4 rfl ?_
  refine zz_callV C zy_X5_of (ct_X5_of (hQ.gz hb)) rfl q625 (hQ.gz hb) rfl rfl rfl rfl rfl rfl dX1_leavesRest_5 ⟨Nat.le_of_ble_eq_true rfl, Nat.le_of_ble_eq_true rfl⟩ (fun v hz hp => ?_)
  obtain ⟨rfl, ez⟩ := hp
  obtain rfl := ez.symm
  rw [show sz_o (a (12 + 10 * b)) (a (12 + 10 * b + 1)) (a (12 + 10 * b + 2)) v2 = a (12 + 10 * b + k) from by rw [hv2]; exact sz_o_f (fun k => a (12 + 10 * b + k)) k hk]
  refine zz_iload_n C dX1_leavesRest_8 rfl ?_
  refine zz_isub C dX1_leavesRest_9 ?_
  first | refine zz_aload_n C dX1_leavesRest_10 rfl ?_ | refine zz_aload_nN C dX1_leavesRest_10 rfl ?_
  refine zz_get C rfl hq rfl in_X1 0 rfl q173 (fun _ h => h) (by first | rfl | assumption) dX1_leavesRest_11 ?_
  refine zz_iconst (v := nI 0) C dX1_leavesRest_14 (by decide) ?_
  refine zz_iald C hfs rfl (by omega) (by omega) dX1_leavesRest_15 ?_
  rw [es 0 (by decide)]
  refine zz_isub C dX1_leavesRest_16 ?_
  refine zz_iconst (v := 1) C dX1_leavesRest_17 (by decide) ?_
  refine zz_icmp_lt (tgt := 25) C dX1_leavesRest_18 (by decide) (fun c18 => ?_) (fun c18 => ?_)
  · refine zz_iconst (v := 0) C dX1_leavesRest_25 (by decide) ?_
    refine zz_zret0 C (zz_narZ (by first | exact zz_b01 _ | decide | assumption)) dX1_leavesRest_26 rfl rfl ?_
    refine ⟨?_, rfl⟩
    show _ = some (Value.int (zz_b (decide (1 ≤ a (12 + 10 * b + k) - v3 - a 0))))
    by_cases c : a (12 + 10 * b + k) - v3 - a 0 < 1
    · first | (rw [decide_eq_false (Int32.not_le.mpr c)]; rfl) | exact absurd c c18
    · first | (rw [decide_eq_true (Int32.not_lt.mp c)]; rfl) | exact absurd c18 c
  · refine zz_iconst (v := 1) C dX1_leavesRest_21 (by decide) ?_
    refine zz_goto (tgt := 26) C dX1_leavesRest_22 (by decide) ?_
    refine zz_zret0 C (zz_narZ (by first | exact zz_b01 _ | decide | assumption)) dX1_leavesRest_26 rfl rfl ?_
    refine ⟨?_, rfl⟩
    show _ = some (Value.int (zz_b (decide (1 ≤ a (12 + 10 * b + k) - v3 - a 0))))
    by_cases c : a (12 + 10 * b + k) - v3 - a 0 < 1
    · first | (rw [decide_eq_false (Int32.not_le.mpr c)]; rfl) | exact absurd c c18
    · first | (rw [decide_eq_true (Int32.not_lt.mp c)]; rfl) | exact absurd c18 c

theorem ct_X1_over {l : Launch} {D : va_G} {b0 : Nat} {h : zz_H} {q : Nat} {ow : Nat → Nat × Nat} {ad sz : Nat → Nat} {a : Nat → Int32} {nb no : Nat} (hwf : wfn a nb no) (hQ : qu_I D h ow q ad sz a nb no) {o b : Nat} (ho : o < no) (hb : b < nb)  : zz_Ct l D b0 yX1_over cX1_over 4 (some .int) 5 111 1 3 [.ref q, .ref (ad (40 + o)), .ref (ad (10 + b))] h (fun v h' => v = some (.int (qa_ov a o b)) ∧ h' = h) := by
  refine zz_Ct.of zy_X1_over.1 rfl ?_
  intro p e s m below meth c C
  have hq := hQ.gq
  have hB := hQ.gb hb
  have hO := hQ.go ho
  obtain ⟨fs, hfs, es⟩ := hQ.gs
  refine zz_joinI (pcJ := 26) (zz_b (ca_can a b)) ?_ ?_
  · rintro z26 rfl
    refine zz_istore_n C dX1_over_26 (by decide) ?_
    refine zz_iload_n C dX1_over_27 rfl ?_
    first | refine zz_ifb_eq (tgt := 51) C dX1_over_28 (by decide) (fun c28 => ?_) (fun c28 => ?_) | refine zz_if_eq (tgt := 51) C dX1_over_28 (by decide) (fun c28 => ?_) (fun c28 => ?_)
    · refine zz_bipush (v := (-6)) C dX1_over_51 (by decide) ?_
      refine zz_iret C dX1_over_53 rfl rfl ?_
      first | exact ⟨by rw [qa_ov_t hwf hb c28], rfl⟩ | exact ⟨by rw [qa_ov_f hwf hb c28], rfl⟩
    · first | refine zz_aload_n C dX1_over_31 rfl ?_ | refine zz_aload_nN C dX1_over_31 rfl ?_
      refine zz_getN C rfl hB rfl in_X3 1 rfl (nst_18 C) (fun _ h => h) (by first | rfl | assumption) dX1_over_32 ?_
      first | refine zz_aload_n C dX1_over_35 rfl ?_ | refine zz_aload_nN C dX1_over_35 rfl ?_
      refine zz_getN C rfl hO rfl in_X4 0 rfl (nst_33 C) (fun _ h => h) (by first | rfl | assumption) dX1_over_36 ?_
      first | refine zz_aload_n C dX1_over_39 rfl ?_ | refine zz_aload_nN C dX1_over_39 rfl ?_
      refine zz_get C rfl hq rfl in_X1 0 rfl q173 (fun _ h => h) (by first | rfl | assumption) dX1_over_40 ?_
      refine zz_iconst (v := nI 3) C dX1_over_43 (by decide) ?_
      refine zz_iald C hfs rfl (by omega) (by omega) dX1_over_44 ?_
      rw [es 3 (by decide)]
      refine zz_callV C zy_X5_over (ct_X5_over (hQ.gz hb) (hQ.oz ho)) rfl q711 (hQ.gz hb) rfl rfl rfl rfl rfl rfl dX1_over_45 ⟨Nat.le_of_ble_eq_true rfl, Nat.le_of_ble_eq_true rfl⟩ (fun v hz hp => ?_)
      obtain ⟨rfl, ez⟩ := hp
      obtain rfl := ez.symm
      refine zz_goto (tgt := 53) C dX1_over_48 (by decide) ?_
      refine zz_iret C dX1_over_53 rfl rfl ?_
      first | exact ⟨by rw [qa_ov_t hwf hb c28], rfl⟩ | exact ⟨by rw [qa_ov_f hwf hb c28], rfl⟩
  · intro J26
    first | refine zz_aload_n C dX1_over_0 rfl ?_ | refine zz_aload_nN C dX1_over_0 rfl ?_
    refine zz_callV C zy_X3_isHere (ct_X3_isHere hB) rfl q707 hB rfl rfl rfl rfl rfl rfl dX1_over_1 ⟨Nat.le_of_ble_eq_true rfl, Nat.le_of_ble_eq_true rfl⟩ (fun v hz hp => ?_)
    obtain ⟨rfl, ez⟩ := hp
    obtain rfl := ez.symm
    first | refine zz_ifb_eq (tgt := 25) C dX1_over_4 (by decide) (fun c4 => ?_) (fun c4 => ?_) | refine zz_if_eq (tgt := 25) C dX1_over_4 (by decide) (fun c4 => ?_) (fun c4 => ?_)
    · refine zz_iconst (v := 0) C dX1_over_25 (by decide) ?_
      exact J26 _ (by unfold ca_can; first | (rw [show decide (a (12 + 10 * b + 4) ≤ 2) = false from c4]; rfl) | (rw [decide_eq_false (Int32.not_lt.mpr c11), Bool.and_false, Bool.false_and]; rfl) | (rw [decide_eq_false c18, Bool.and_false]; rfl) | (rw [show decide (a (12 + 10 * b + 4) ≤ 2) = true from c4, decide_eq_true (Int32.not_le.mp c11), decide_eq_true c18]; rfl))
    · first | refine zz_aload_n C dX1_over_7 rfl ?_ | refine zz_aload_nN C dX1_over_7 rfl ?_
      refine zz_getN C rfl hB rfl in_X3 6 rfl (nst_27 C) (fun _ h => h) (by first | rfl | assumption) dX1_over_8 ?_
      refine zz_if_ge (tgt := 25) C dX1_over_11 (by decide) (fun c11 => ?_) (fun c11 => ?_)
      · refine zz_iconst (v := 0) C dX1_over_25 (by decide) ?_
        exact J26 _ (by unfold ca_can; first | (rw [show decide (a (12 + 10 * b + 4) ≤ 2) = false from c4]; rfl) | (rw [decide_eq_false (Int32.not_lt.mpr c11), Bool.and_false, Bool.false_and]; rfl) | (rw [decide_eq_false c18, Bool.and_false]; rfl) | (rw [show decide (a (12 + 10 * b + 4) ≤ 2) = true from c4, decide_eq_true (Int32.not_le.mp c11), decide_eq_true c18]; rfl))
      · first | refine zz_aload_n C dX1_over_14 rfl ?_ | refine zz_aload_nN C dX1_over_14 rfl ?_
        refine zz_getN C rfl hB rfl in_X3 8 rfl (nst_31 C) (fun _ h => h) (by first | rfl | assumption) dX1_over_15 ?_
        refine zz_if_ne (tgt := 25) C dX1_over_18 (by decide) (fun c18 => ?_) (fun c18 => ?_)
        · refine zz_iconst (v := 0) C dX1_over_25 (by decide) ?_
          exact J26 _ (by unfold ca_can; first | (rw [show decide (a (12 + 10 * b + 4) ≤ 2) = false from c4]; rfl) | (rw [decide_eq_false (Int32.not_lt.mpr c11), Bool.and_false, Bool.false_and]; rfl) | (rw [decide_eq_false c18, Bool.and_false]; rfl) | (rw [show decide (a (12 + 10 * b + 4) ≤ 2) = true from c4, decide_eq_true (Int32.not_le.mp c11), decide_eq_true c18]; rfl))
        · refine zz_iconst (v := 1) C dX1_over_21 (by decide) ?_
          refine zz_goto (tgt := 26) C dX1_over_22 (by decide) ?_
          exact J26 _ (by unfold ca_can; first | (rw [show decide (a (12 + 10 * b + 4) ≤ 2) = false from c4]; rfl) | (rw [decide_eq_false (Int32.not_lt.mpr c11), Bool.and_false, Bool.false_and]; rfl) | (rw [decide_eq_false c18, Bool.and_false]; rfl) | (rw [show decide (a (12 + 10 * b + 4) ≤ 2) = true from c4, decide_eq_true (Int32.not_le.mp c11), decide_eq_true c18]; rfl))

theorem ct_X1_isCracking {l : Launch} {D : va_G} {b0 : Nat} {h : zz_H} {B s0 : Nat} {n0 d0 f0 w0 t0 o0 p0 c0 : Int32} (hB : h B = some (bl_G n0 s0 d0 f0 w0 t0 o0 p0 c0)) {q : Nat}  : zz_Ct l D b0 yX1_isCracking cX1_isCracking 2 (some .boolean) 0 0 0 0 [.ref q, .ref B] h (fun v h' => v = some (.int (zz_b (decide (w0 = 0) && !decide (t0 ≤ 0) && decide (c0 = 0)))) ∧ h' = h) := by
  refine zz_Ct.of zy_X1_isCracking.1 rfl ?_
  intro p e s m below meth c C
  first | refine zz_aload_n C dX1_isCracking_0 rfl ?_ | refine zz_aload_nN C dX1_isCracking_0 rfl ?_
  refine zz_getN C rfl hB rfl in_X3 4 rfl (nst_23 C) (fun _ h => h) (by first | rfl | assumption) dX1_isCracking_1 ?_
  refine zz_if_ne (tgt := 25) C dX1_isCracking_4 (by decide) (fun c4 => ?_) (fun c4 => ?_)
  · refine zz_iconst (v := 0) C dX1_isCracking_25 (by decide) ?_
    refine zz_zret0 C (zz_narZ (by first | exact zz_b01 _ | decide | assumption)) dX1_isCracking_26 rfl rfl ?_
    refine ⟨?_, rfl⟩
    first | (rw [decide_eq_false c4]; rfl) | (rw [decide_eq_true c11, Bool.not_true, Bool.and_false]; rfl) | (rw [decide_eq_false c18, Bool.and_false]; rfl) | (rw [decide_eq_true c4, decide_eq_false c11, decide_eq_true c18]; rfl)
  · first | refine zz_aload_n C dX1_isCracking_7 rfl ?_ | refine zz_aload_nN C dX1_isCracking_7 rfl ?_
    refine zz_getN C rfl hB rfl in_X3 5 rfl (nst_25 C) (fun _ h => h) (by first | rfl | assumption) dX1_isCracking_8 ?_
    refine zz_if_le (tgt := 25) C dX1_isCracking_11 (by decide) (fun c11 => ?_) (fun c11 => ?_)
    · refine zz_iconst (v := 0) C dX1_isCracking_25 (by decide) ?_
      refine zz_zret0 C (zz_narZ (by first | exact zz_b01 _ | decide | assumption)) dX1_isCracking_26 rfl rfl ?_
      refine ⟨?_, rfl⟩
      first | (rw [decide_eq_false c4]; rfl) | (rw [decide_eq_true c11, Bool.not_true, Bool.and_false]; rfl) | (rw [decide_eq_false c18, Bool.and_false]; rfl) | (rw [decide_eq_true c4, decide_eq_false c11, decide_eq_true c18]; rfl)
    · first | refine zz_aload_n C dX1_isCracking_14 rfl ?_ | refine zz_aload_nN C dX1_isCracking_14 rfl ?_
      refine zz_getN C rfl hB rfl in_X3 8 rfl (nst_31 C) (fun _ h => h) (by first | rfl | assumption) dX1_isCracking_15 ?_
      refine zz_if_ne (tgt := 25) C dX1_isCracking_18 (by decide) (fun c18 => ?_) (fun c18 => ?_)
      · refine zz_iconst (v := 0) C dX1_isCracking_25 (by decide) ?_
        refine zz_zret0 C (zz_narZ (by first | exact zz_b01 _ | decide | assumption)) dX1_isCracking_26 rfl rfl ?_
        refine ⟨?_, rfl⟩
        first | (rw [decide_eq_false c4]; rfl) | (rw [decide_eq_true c11, Bool.not_true, Bool.and_false]; rfl) | (rw [decide_eq_false c18, Bool.and_false]; rfl) | (rw [decide_eq_true c4, decide_eq_false c11, decide_eq_true c18]; rfl)
      · refine zz_iconst (v := 1) C dX1_isCracking_21 (by decide) ?_
        refine zz_goto (tgt := 26) C dX1_isCracking_22 (by decide) ?_
        refine zz_zret0 C (zz_narZ (by first | exact zz_b01 _ | decide | assumption)) dX1_isCracking_26 rfl rfl ?_
        refine ⟨?_, rfl⟩
        first | (rw [decide_eq_false c4]; rfl) | (rw [decide_eq_true c11, Bool.not_true, Bool.and_false]; rfl) | (rw [decide_eq_false c18, Bool.and_false]; rfl) | (rw [decide_eq_true c4, decide_eq_false c11, decide_eq_true c18]; rfl)

theorem ct_X1_loadOf {l : Launch} {D : va_G} {b0 : Nat} {h : zz_H} {q : Nat} {ow : Nat → Nat × Nat} {ad sz : Nat → Nat} {a : Nat → Int32} {nb no : Nat} (hwf : wfn a nb no) (hQ : qu_I D h ow q ad sz a nb no) {l1 : Nat} {v1 : Int32} (hv1 : v1 = nI l1) (hl1 : l1 < 3)  : zz_Ct l D b0 yX1_loadOf cX1_loadOf 5 (some .int) 3 61 1 4 [.ref q, .int v1] h (fun v h' => v = some (.int (qa_load a nb v1 5)) ∧ h' = h) := by
  refine zz_Ct.of zy_X1_loadOf.1 rfl ?_
  intro p e s m below meth c C
  have hnb := hwf.1
  obtain ⟨mcL, ar, cap, f, hLx⟩ := hQ.gL
  have hq := hQ.gq
  have hL := hLx.1
  have hel : ∀ i : Nat, i < nb → f i = some (ad (10 + i)) := hLx.2.2.2.2.2
  have hnc : nb ≤ cap := hLx.2.2.1
  have hcap : cap ≤ 100 := hLx.2.2.2.1
  refine zz_iconst (v := 0) C dX1_loadOf_0 (by decide) ?_
  refine zz_istore_n C dX1_loadOf_1 (by decide) ?_
  first | refine zz_aload_n C dX1_loadOf_2 rfl ?_ | refine zz_aload_nN C dX1_loadOf_2 rfl ?_
  refine zz_get C rfl hq rfl in_X1 5 rfl q183 (fun _ h => h) (by first | rfl | assumption) dX1_loadOf_3 ?_
  refine zz_callF (x2 := ⟨"java/util/List", "iterator", "()Ljava/util/Iterator;"⟩) C zy_J2_iterator (ct_J2_iterator (by assumption)) rfl q333 q336 q338 nif_2 nid_2 hL rfl rfl rfl rfl rfl rfl dX1_loadOf_6 ⟨Nat.le_of_ble_eq_true rfl, Nat.le_of_ble_eq_true rfl⟩ (fun v hz hp => ?_)
  obtain ⟨it, rfl, hit, hitb, ez⟩ := hp
  obtain rfl := ez.symm
  refine zz_astore_n C dX1_loadOf_11 (by decide) ?_
  have L12 : ∀ (n : Nat) (i : Nat) (lr : Int32), i ≤ nb → nb + 1 ≤ i + n → zz_V D b0 5 p l e ({ frames := 3, cells := 1, slots := 4, locals := 61 } : Jvm.Room) s m ([.ref q, .int v1] : List Value).toArray below meth c (MQ below (zz_Q D b0 (fun v h' => v = some (.int (qa_load a nb v1 5)) ∧ h' = h)) ([.ref q, .int v1] : List Value).toArray s 1 4 (fun q => b0 ≤ q)) 1 4 (zz_up h it (it_F i lr mcL (ad 6))) [(0, .ref q), (1, .int v1), (2, .int (qa_sum (fun b => if ca_on a v1 b = true then qa_w a b else 0) i)), (3, .ref it)] 12 [] := by
    intro n
    induction n with
    | zero =>
      intro i lr h1 h2
      exact absurd h2 (by omega)
    | succ n ih =>
      intro i lr h1 h2
      first | refine zz_aload_n C dX1_loadOf_12 rfl ?_ | refine zz_aload_nN C dX1_loadOf_12 rfl ?_
      refine zz_callF (x2 := ⟨"java/util/Iterator", "hasNext", "()Z"⟩) C zy_J9_hasNext (ct_J9_hasNext (by omega) (by omega) zz_us (zz_uf hL hit)) rfl q361 q365 q367 nif_6 nid_6 zz_us rfl rfl rfl rfl rfl rfl dX1_loadOf_13 ⟨Nat.le_of_ble_eq_true rfl, Nat.le_of_ble_eq_true rfl⟩ (fun v hz hp => ?_)
      obtain ⟨rfl, ez⟩ := hp
      obtain rfl := ez.symm
      first | refine zz_ifb_eq (tgt := 56) C dX1_loadOf_18 (by decide) (fun c18 => ?_) (fun c18 => ?_) | refine zz_if_eq (tgt := 56) C dX1_loadOf_18 (by decide) (fun c18 => ?_) (fun c18 => ?_)
      · obtain rfl : i = nb := by
          have := of_decide_eq_false c18
          omega
        refine zz_wk (h' := h) (fun x e hx => zz_uf hx hit) ?_
        refine zz_iload_n C dX1_loadOf_56 rfl ?_
        refine zz_iret C dX1_loadOf_57 rfl rfl ?_
        exact ⟨by rw [hv1, ca_load hwf hl1], rfl⟩
      · have hi2 : i < nb := of_decide_eq_true c18
        first | refine zz_aload_n C dX1_loadOf_21 rfl ?_ | refine zz_aload_nN C dX1_loadOf_21 rfl ?_
        refine zz_callF (x2 := ⟨"java/util/Iterator", "next", "()Ljava/lang/Object;"⟩) C zy_J9_next (ct_J9_next hi2 hnc (hel i hi2) zz_us (zz_uf hL hit) (zz_uf (hLx.T hi2) hit) (by omega)) rfl q371 q374 q376 nif_7 nid_7 zz_us rfl rfl rfl rfl rfl rfl dX1_loadOf_22 ⟨Nat.le_of_ble_eq_true rfl, Nat.le_of_ble_eq_true rfl⟩ (fun v hz hp => ?_)
        obtain ⟨rfl, ez⟩ := hp
        rw [zz_upup] at ez
        obtain rfl := ez.symm
        have hbi : (zz_up h it (it_F (i + 1) (nI i) mcL (ad 6))) (ad (10 + i)) = some (bl_F a i (sz i)) := zz_uf (hQ.gb hi2) hit
        have hzi : (zz_up h it (it_F (i + 1) (nI i) mcL (ad 6))) (sz i) = some (bs_F a i) := zz_uf (hQ.gz hi2) hit
        refine zz_cast C rfl hbi rfl q383 (by first | exact Or.inl rfl | exact Or.inr (by decide +kernel)) dX1_loadOf_27 ?_
        refine zz_astore C dX1_loadOf_30 (by decide) ?_
        refine zz_iload_n C dX1_loadOf_32 rfl ?_
        refine zz_joinI (pcJ := 51) (if ca_on a v1 i = true then qa_w a i else 0) ?_ ?_
        · rintro z51 rfl
          refine zz_iadd C dX1_loadOf_51 ?_
          refine zz_istore_n C dX1_loadOf_52 (by decide) ?_
          refine zz_goto (tgt := 12) C dX1_loadOf_53 (by decide) ?_
          exact zz_loc2 (ih (i + 1) (nI i) (by omega) (by omega)) ⟨rfl, rfl, rfl, rfl, trivial⟩
        · intro J51
          first | refine zz_aload C dX1_loadOf_33 rfl ?_ | refine zz_aloadN C dX1_loadOf_33 rfl ?_
          refine zz_iload_n C dX1_loadOf_35 rfl ?_
          refine zz_callV C zy_X3_isOn (ct_X3_isOn hbi) rfl q749 hbi rfl rfl rfl rfl rfl rfl dX1_loadOf_36 ⟨Nat.le_of_ble_eq_true rfl, Nat.le_of_ble_eq_true rfl⟩ (fun v hz hp => ?_)
          obtain ⟨rfl, ez⟩ := hp
          obtain rfl := ez.symm
          first | refine zz_ifb_eq (tgt := 50) C dX1_loadOf_39 (by decide) (fun c39 => ?_) (fun c39 => ?_) | refine zz_if_eq (tgt := 50) C dX1_loadOf_39 (by decide) (fun c39 => ?_) (fun c39 => ?_)
          · refine zz_iconst (v := 0) C dX1_loadOf_50 (by decide) ?_
            exact J51 _ (by first | exact (if_pos c39).symm | exact (if_neg (fun g => absurd (c39.symm.trans g) (by decide))).symm)
          · first | refine zz_aload C dX1_loadOf_42 rfl ?_ | refine zz_aloadN C dX1_loadOf_42 rfl ?_
            refine zz_callV C zy_X3_weight (ct_X3_weight hbi hzi) rfl q571 hbi rfl rfl rfl rfl rfl rfl dX1_loadOf_44 ⟨Nat.le_of_ble_eq_true rfl, Nat.le_of_ble_eq_true rfl⟩ (fun v hz hp => ?_)
            obtain ⟨rfl, ez⟩ := hp
            obtain rfl := ez.symm
            refine zz_goto (tgt := 51) C dX1_loadOf_47 (by decide) ?_
            exact J51 _ (by first | exact (if_pos c39).symm | exact (if_neg (fun g => absurd (c39.symm.trans g) (by decide))).symm)
  exact zz_loc2 (L12 (nb + 1) 0 (-1) (by omega) (by omega)) ⟨rfl, rfl, rfl, rfl, trivial⟩

theorem ct_X1_blocksOn {l : Launch} {D : va_G} {b0 : Nat} {h : zz_H} {q : Nat} {ow : Nat → Nat × Nat} {ad sz : Nat → Nat} {a : Nat → Int32} {nb no : Nat} (hwf : wfn a nb no) (hQ : qu_I D h ow q ad sz a nb no) {l1 : Nat} {v1 : Int32} (hv1 : v1 = nI l1) (hl1 : l1 < 3)  : zz_Ct l D b0 yX1_blocksOn cX1_blocksOn 5 (some .int) 3 61 1 4 [.ref q, .int v1] h (fun v h' => v = some (.int (qa_on a nb v1 5)) ∧ h' = h) := by
  refine zz_Ct.of zy_X1_blocksOn.1 rfl ?_
  intro p e s m below meth c C
  have hnb := hwf.1
  obtain ⟨mcL, ar, cap, f, hLx⟩ := hQ.gL
  have hq := hQ.gq
  have hL := hLx.1
  have hel : ∀ i : Nat, i < nb → f i = some (ad (10 + i)) := hLx.2.2.2.2.2
  have hnc : nb ≤ cap := hLx.2.2.1
  have hcap : cap ≤ 100 := hLx.2.2.2.1
  refine zz_iconst (v := 0) C dX1_blocksOn_0 (by decide) ?_
  refine zz_istore_n C dX1_blocksOn_1 (by decide) ?_
  first | refine zz_aload_n C dX1_blocksOn_2 rfl ?_ | refine zz_aload_nN C dX1_blocksOn_2 rfl ?_
  refine zz_get C rfl hq rfl in_X1 5 rfl q183 (fun _ h => h) (by first | rfl | assumption) dX1_blocksOn_3 ?_
  refine zz_callF (x2 := ⟨"java/util/List", "iterator", "()Ljava/util/Iterator;"⟩) C zy_J2_iterator (ct_J2_iterator (by assumption)) rfl q333 q336 q338 nif_2 nid_2 hL rfl rfl rfl rfl rfl rfl dX1_blocksOn_6 ⟨Nat.le_of_ble_eq_true rfl, Nat.le_of_ble_eq_true rfl⟩ (fun v hz hp => ?_)
  obtain ⟨it, rfl, hit, hitb, ez⟩ := hp
  obtain rfl := ez.symm
  refine zz_astore_n C dX1_blocksOn_11 (by decide) ?_
  have L12 : ∀ (n : Nat) (i : Nat) (lr : Int32), i ≤ nb → nb + 1 ≤ i + n → zz_V D b0 5 p l e ({ frames := 3, cells := 1, slots := 4, locals := 61 } : Jvm.Room) s m ([.ref q, .int v1] : List Value).toArray below meth c (MQ below (zz_Q D b0 (fun v h' => v = some (.int (qa_on a nb v1 5)) ∧ h' = h)) ([.ref q, .int v1] : List Value).toArray s 1 4 (fun q => b0 ≤ q)) 1 4 (zz_up h it (it_F i lr mcL (ad 6))) [(0, .ref q), (1, .int v1), (2, .int (qa_or (ca_on a v1) i)), (3, .ref it)] 12 [] := by
    intro n
    induction n with
    | zero =>
      intro i lr h1 h2
      exact absurd h2 (by omega)
    | succ n ih =>
      intro i lr h1 h2
      first | refine zz_aload_n C dX1_blocksOn_12 rfl ?_ | refine zz_aload_nN C dX1_blocksOn_12 rfl ?_
      refine zz_callF (x2 := ⟨"java/util/Iterator", "hasNext", "()Z"⟩) C zy_J9_hasNext (ct_J9_hasNext (by omega) (by omega) zz_us (zz_uf hL hit)) rfl q361 q365 q367 nif_6 nid_6 zz_us rfl rfl rfl rfl rfl rfl dX1_blocksOn_13 ⟨Nat.le_of_ble_eq_true rfl, Nat.le_of_ble_eq_true rfl⟩ (fun v hz hp => ?_)
      obtain ⟨rfl, ez⟩ := hp
      obtain rfl := ez.symm
      first | refine zz_ifb_eq (tgt := 58) C dX1_blocksOn_18 (by decide) (fun c18 => ?_) (fun c18 => ?_) | refine zz_if_eq (tgt := 58) C dX1_blocksOn_18 (by decide) (fun c18 => ?_) (fun c18 => ?_)
      · obtain rfl : i = nb := by
          have := of_decide_eq_false c18
          omega
        refine zz_wk (h' := h) (fun x e hx => zz_uf hx hit) ?_
        refine zz_iload_n C dX1_blocksOn_58 rfl ?_
        refine zz_iret C dX1_blocksOn_59 rfl rfl ?_
        exact ⟨by rw [hv1, ca_ons hwf hl1], rfl⟩
      · have hi2 : i < nb := of_decide_eq_true c18
        first | refine zz_aload_n C dX1_blocksOn_21 rfl ?_ | refine zz_aload_nN C dX1_blocksOn_21 rfl ?_
        refine zz_callF (x2 := ⟨"java/util/Iterator", "next", "()Ljava/lang/Object;"⟩) C zy_J9_next (ct_J9_next hi2 hnc (hel i hi2) zz_us (zz_uf hL hit) (zz_uf (hLx.T hi2) hit) (by omega)) rfl q371 q374 q376 nif_7 nid_7 zz_us rfl rfl rfl rfl rfl rfl dX1_blocksOn_22 ⟨Nat.le_of_ble_eq_true rfl, Nat.le_of_ble_eq_true rfl⟩ (fun v hz hp => ?_)
        obtain ⟨rfl, ez⟩ := hp
        rw [zz_upup] at ez
        obtain rfl := ez.symm
        have hbi : (zz_up h it (it_F (i + 1) (nI i) mcL (ad 6))) (ad (10 + i)) = some (bl_F a i (sz i)) := zz_uf (hQ.gb hi2) hit
        have hzi : (zz_up h it (it_F (i + 1) (nI i) mcL (ad 6))) (sz i) = some (bs_F a i) := zz_uf (hQ.gz hi2) hit
        refine zz_cast C rfl hbi rfl q383 (by first | exact Or.inl rfl | exact Or.inr (by decide +kernel)) dX1_blocksOn_27 ?_
        refine zz_astore C dX1_blocksOn_30 (by decide) ?_
        refine zz_iload_n C dX1_blocksOn_32 rfl ?_
        refine zz_joinI (pcJ := 53) (if ca_on a v1 i = true then (1 : Int32) <<< (nI i &&& 31) else 0) ?_ ?_
        · rintro z53 rfl
          refine zz_ior C dX1_blocksOn_53 ?_
          refine zz_istore_n C dX1_blocksOn_54 (by decide) ?_
          refine zz_goto (tgt := 12) C dX1_blocksOn_55 (by decide) ?_
          exact zz_loc2 (ih (i + 1) (nI i) (by omega) (by omega)) ⟨rfl, rfl, rfl, rfl, trivial⟩
        · intro J53
          first | refine zz_aload C dX1_blocksOn_33 rfl ?_ | refine zz_aloadN C dX1_blocksOn_33 rfl ?_
          refine zz_iload_n C dX1_blocksOn_35 rfl ?_
          refine zz_callV C zy_X3_isOn (ct_X3_isOn hbi) rfl q749 hbi rfl rfl rfl rfl rfl rfl dX1_blocksOn_36 ⟨Nat.le_of_ble_eq_true rfl, Nat.le_of_ble_eq_true rfl⟩ (fun v hz hp => ?_)
          obtain ⟨rfl, ez⟩ := hp
          obtain rfl := ez.symm
          first | refine zz_ifb_eq (tgt := 52) C dX1_blocksOn_39 (by decide) (fun c39 => ?_) (fun c39 => ?_) | refine zz_if_eq (tgt := 52) C dX1_blocksOn_39 (by decide) (fun c39 => ?_) (fun c39 => ?_)
          · refine zz_iconst (v := 0) C dX1_blocksOn_52 (by decide) ?_
            exact J53 _ (by first | exact (if_pos c39).symm | exact (if_neg (fun g => absurd (c39.symm.trans g) (by decide))).symm)
          · refine zz_iconst (v := 1) C dX1_blocksOn_42 (by decide) ?_
            first | refine zz_aload C dX1_blocksOn_43 rfl ?_ | refine zz_aloadN C dX1_blocksOn_43 rfl ?_
            refine zz_getN C rfl hbi rfl in_X3 0 rfl (nst_16 C) (fun _ h => h) (by first | rfl | assumption) dX1_blocksOn_45 ?_
            refine zz_ishl C dX1_blocksOn_48 ?_
            refine zz_goto (tgt := 53) C dX1_blocksOn_49 (by decide) ?_
            exact J53 _ (by first | exact (if_pos c39).symm | exact (if_neg (fun g => absurd (c39.symm.trans g) (by decide))).symm)
  exact zz_loc2 (L12 (nb + 1) 0 (-1) (by omega) (by omega)) ⟨rfl, rfl, rfl, rfl, trivial⟩

theorem ct_X1_hasCracked {l : Launch} {D : va_G} {b0 : Nat} {h : zz_H} {q : Nat} {ow : Nat → Nat × Nat} {ad sz : Nat → Nat} {a : Nat → Int32} {nb no : Nat} (hwf : wfn a nb no) (hQ : qu_I D h ow q ad sz a nb no) {l1 : Nat} {v1 : Int32} (hv1 : v1 = nI l1) (hl1 : l1 < 3)  : zz_Ct l D b0 yX1_hasCracked cX1_hasCracked 5 (some .boolean) 3 61 1 4 [.ref q, .int v1] h (fun v h' => v = some (.int (zz_b (qa_hc a nb v1 5))) ∧ h' = h) := by
  refine zz_Ct.of zy_X1_hasCracked.1 rfl ?_
  intro p e s m below meth c C
  have hnb := hwf.1
  obtain ⟨mcL, ar, cap, f, hLx⟩ := hQ.gL
  have hq := hQ.gq
  have hL := hLx.1
  have hel : ∀ i : Nat, i < nb → f i = some (ad (10 + i)) := hLx.2.2.2.2.2
  have hnc : nb ≤ cap := hLx.2.2.1
  have hcap : cap ≤ 100 := hLx.2.2.2.1
  refine zz_iconst (v := 0) C dX1_hasCracked_0 (by decide) ?_
  refine zz_istore_n C dX1_hasCracked_1 (by decide) ?_
  first | refine zz_aload_n C dX1_hasCracked_2 rfl ?_ | refine zz_aload_nN C dX1_hasCracked_2 rfl ?_
  refine zz_get C rfl hq rfl in_X1 5 rfl q183 (fun _ h => h) (by first | rfl | assumption) dX1_hasCracked_3 ?_
  refine zz_callF (x2 := ⟨"java/util/List", "iterator", "()Ljava/util/Iterator;"⟩) C zy_J2_iterator (ct_J2_iterator (by assumption)) rfl q333 q336 q338 nif_2 nid_2 hL rfl rfl rfl rfl rfl rfl dX1_hasCracked_6 ⟨Nat.le_of_ble_eq_true rfl, Nat.le_of_ble_eq_true rfl⟩ (fun v hz hp => ?_)
  obtain ⟨it, rfl, hit, hitb, ez⟩ := hp
  obtain rfl := ez.symm
  refine zz_astore_n C dX1_hasCracked_11 (by decide) ?_
  have L12 : ∀ (n : Nat) (i : Nat) (lr : Int32), i ≤ nb → nb + 1 ≤ i + n → zz_V D b0 5 p l e ({ frames := 3, cells := 1, slots := 4, locals := 61 } : Jvm.Room) s m ([.ref q, .int v1] : List Value).toArray below meth c (MQ below (zz_Q D b0 (fun v h' => v = some (.int (zz_b (qa_hc a nb v1 5))) ∧ h' = h)) ([.ref q, .int v1] : List Value).toArray s 1 4 (fun q => b0 ≤ q)) 1 4 (zz_up h it (it_F i lr mcL (ad 6))) [(0, .ref q), (1, .int v1), (2, .int (zz_b (ca_hc a v1 i))), (3, .ref it)] 12 [] := by
    intro n
    induction n with
    | zero =>
      intro i lr h1 h2
      exact absurd h2 (by omega)
    | succ n ih =>
      intro i lr h1 h2
      first | refine zz_aload_n C dX1_hasCracked_12 rfl ?_ | refine zz_aload_nN C dX1_hasCracked_12 rfl ?_
      refine zz_callF (x2 := ⟨"java/util/Iterator", "hasNext", "()Z"⟩) C zy_J9_hasNext (ct_J9_hasNext (by omega) (by omega) zz_us (zz_uf hL hit)) rfl q361 q365 q367 nif_6 nid_6 zz_us rfl rfl rfl rfl rfl rfl dX1_hasCracked_13 ⟨Nat.le_of_ble_eq_true rfl, Nat.le_of_ble_eq_true rfl⟩ (fun v hz hp => ?_)
      obtain ⟨rfl, ez⟩ := hp
      obtain rfl := ez.symm
      first | refine zz_ifb_eq (tgt := 60) C dX1_hasCracked_18 (by decide) (fun c18 => ?_) (fun c18 => ?_) | refine zz_if_eq (tgt := 60) C dX1_hasCracked_18 (by decide) (fun c18 => ?_) (fun c18 => ?_)
      · obtain rfl : i = nb := by
          have := of_decide_eq_false c18
          omega
        refine zz_wk (h' := h) (fun x e hx => zz_uf hx hit) ?_
        refine zz_iload_n C dX1_hasCracked_60 rfl ?_
        refine zz_zret0 C (zz_narZ (by first | exact zz_b01 _ | decide | assumption)) dX1_hasCracked_61 rfl rfl ?_
        exact ⟨by rw [hv1, ca_hcs hwf hl1], rfl⟩
      · have hi2 : i < nb := of_decide_eq_true c18
        first | refine zz_aload_n C dX1_hasCracked_21 rfl ?_ | refine zz_aload_nN C dX1_hasCracked_21 rfl ?_
        refine zz_callF (x2 := ⟨"java/util/Iterator", "next", "()Ljava/lang/Object;"⟩) C zy_J9_next (ct_J9_next hi2 hnc (hel i hi2) zz_us (zz_uf hL hit) (zz_uf (hLx.T hi2) hit) (by omega)) rfl q371 q374 q376 nif_7 nid_7 zz_us rfl rfl rfl rfl rfl rfl dX1_hasCracked_22 ⟨Nat.le_of_ble_eq_true rfl, Nat.le_of_ble_eq_true rfl⟩ (fun v hz hp => ?_)
        obtain ⟨rfl, ez⟩ := hp
        rw [zz_upup] at ez
        obtain rfl := ez.symm
        have hbi : (zz_up h it (it_F (i + 1) (nI i) mcL (ad 6))) (ad (10 + i)) = some (bl_F a i (sz i)) := zz_uf (hQ.gb hi2) hit
        have hzi : (zz_up h it (it_F (i + 1) (nI i) mcL (ad 6))) (sz i) = some (bs_F a i) := zz_uf (hQ.gz hi2) hit
        refine zz_cast C rfl hbi rfl q383 (by first | exact Or.inl rfl | exact Or.inr (by decide +kernel)) dX1_hasCracked_27 ?_
        refine zz_astore C dX1_hasCracked_30 (by decide) ?_
        refine zz_iload_n C dX1_hasCracked_32 rfl ?_
        refine zz_joinI (pcJ := 55) (zz_b (ca_on a v1 i && decide (a (12 + 10 * i + 6) = 1))) ?_ ?_
        · rintro z55 rfl
          refine zz_ior C dX1_hasCracked_55 ?_
          refine zz_istore_n C dX1_hasCracked_56 (by decide) ?_
          refine zz_goto (tgt := 12) C dX1_hasCracked_57 (by decide) ?_
          rw [show zz_b (ca_hc a v1 i) ||| zz_b (ca_on a v1 i && decide (a (12 + 10 * i + 6) = 1)) = zz_b (ca_hc a v1 (i + 1)) from zz_bor _ _]
          exact zz_loc2 (ih (i + 1) (nI i) (by omega) (by omega)) ⟨rfl, rfl, rfl, rfl, trivial⟩
        · intro J55
          first | refine zz_aload C dX1_hasCracked_33 rfl ?_ | refine zz_aloadN C dX1_hasCracked_33 rfl ?_
          refine zz_iload_n C dX1_hasCracked_35 rfl ?_
          refine zz_callV C zy_X3_isOn (ct_X3_isOn hbi) rfl q749 hbi rfl rfl rfl rfl rfl rfl dX1_hasCracked_36 ⟨Nat.le_of_ble_eq_true rfl, Nat.le_of_ble_eq_true rfl⟩ (fun v hz hp => ?_)
          obtain ⟨rfl, ez⟩ := hp
          obtain rfl := ez.symm
          first | refine zz_ifb_eq (tgt := 54) C dX1_hasCracked_39 (by decide) (fun c39 => ?_) (fun c39 => ?_) | refine zz_if_eq (tgt := 54) C dX1_hasCracked_39 (by decide) (fun c39 => ?_) (fun c39 => ?_)
          · refine zz_iconst (v := 0) C dX1_hasCracked_54 (by decide) ?_
            exact J55 _ (by first | (rw [show ca_on a v1 i = false from c39]; rfl) | (rw [show ca_on a v1 i = true from c39, c47]; rfl) | (rw [show ca_on a v1 i = true from c39, (hwf.c6 hi2).resolve_left c47]; rfl))
          · first | refine zz_aload C dX1_hasCracked_42 rfl ?_ | refine zz_aloadN C dX1_hasCracked_42 rfl ?_
            refine zz_getN C rfl hbi rfl in_X3 8 rfl (nst_31 C) (fun _ h => h) (by first | rfl | assumption) dX1_hasCracked_44 ?_
            refine zz_if_eq (tgt := 54) C dX1_hasCracked_47 (by decide) (fun c47 => ?_) (fun c47 => ?_)
            · refine zz_iconst (v := 0) C dX1_hasCracked_54 (by decide) ?_
              exact J55 _ (by first | (rw [show ca_on a v1 i = false from c39]; rfl) | (rw [show ca_on a v1 i = true from c39, c47]; rfl) | (rw [show ca_on a v1 i = true from c39, (hwf.c6 hi2).resolve_left c47]; rfl))
            · refine zz_iconst (v := 1) C dX1_hasCracked_50 (by decide) ?_
              refine zz_goto (tgt := 55) C dX1_hasCracked_51 (by decide) ?_
              exact J55 _ (by first | (rw [show ca_on a v1 i = false from c39]; rfl) | (rw [show ca_on a v1 i = true from c39, c47]; rfl) | (rw [show ca_on a v1 i = true from c39, (hwf.c6 hi2).resolve_left c47]; rfl))
  exact zz_loc2 (L12 (nb + 1) 0 (-1) (by omega) (by omega)) ⟨rfl, rfl, rfl, rfl, trivial⟩

