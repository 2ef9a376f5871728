/-! the twin: what it does by a letter -/
theorem op_does_113 {a : Nat → Int32} {v0 v1 v2 v3 v4 : Int32} (ek : v0 = 113) : op_does a v0 v1 v2 v3 v4 = op_quarries a v1 v2 v3 v4 := by
  subst ek
  unfold op_does
  rw [if_pos rfl]
theorem op_does_99 {a : Nat → Int32} {v0 v1 v2 v3 v4 : Int32} (ek : v0 = 99) : op_does a v0 v1 v2 v3 v4 = op_cuts a v1 v2 v3 := by
  subst ek
  unfold op_does
  rw [if_neg (by decide), if_pos rfl]
theorem op_does_111 {a : Nat → Int32} {v0 v1 v2 v3 v4 : Int32} (ek : v0 = 111) : op_does a v0 v1 v2 v3 v4 = op_orders a v1 v2 v3 := by
  subst ek
  unfold op_does
  rw [if_neg (by decide), if_neg (by decide), if_pos rfl]
theorem op_does_103 {a : Nat → Int32} {v0 v1 v2 v3 v4 : Int32} (ek : v0 = 103) : op_does a v0 v1 v2 v3 v4 = op_gives a v1 v2 := by
  subst ek
  unfold op_does
  rw [if_neg (by decide), if_neg (by decide), if_neg (by decide), if_pos rfl]
theorem op_does_108 {a : Nat → Int32} {v0 v1 v2 v3 v4 : Int32} (ek : v0 = 108) : op_does a v0 v1 v2 v3 v4 = op_loads a v1 v2 v3 := by
  subst ek
  unfold op_does
  rw [if_neg (by decide), if_neg (by decide), if_neg (by decide), if_neg (by decide), if_pos rfl]
theorem op_does_110 {a : Nat → Int32} {v0 v1 v2 v3 v4 : Int32} (ek : v0 = 110) : op_does a v0 v1 v2 v3 v4 = op_nights a v1 := by
  subst ek
  unfold op_does
  rw [if_neg (by decide), if_neg (by decide), if_neg (by decide), if_neg (by decide), if_neg (by decide), if_pos rfl]
theorem op_does_100 {a : Nat → Int32} {v0 v1 v2 v3 v4 : Int32} (ek : v0 = 100) : op_does a v0 v1 v2 v3 v4 = op_leaves a v1 := by
  subst ek
  unfold op_does
  rw [if_neg (by decide), if_neg (by decide), if_neg (by decide), if_neg (by decide), if_neg (by decide), if_neg (by decide)]
theorem ct_X2_does {l : Launch} {D : va_G} {b0 : Nat} {h : zz_H} {x : Nat} {ad : Nat → Nat} {a ah hi : Nat → Int32} {kp : Nat} {sl sv pd : Nat → Int32} {len : Nat} {so : Nat → Int32} {pos wr : Int32} {to : Nat → Int32} {v0 v1 v2 v3 v4 : Int32} (nb : Nat) (h5 : a 5 = nI nb) (hnb : nb ≤ 24) (no : Nat) (h6o : a 6 = nI no) (hno : no ≤ 10) (hw : qa_wk a nb) (hob : qa_ob a nb) (hlet : v0 = 113 ∨ v0 = 99 ∨ v0 = 111 ∨ v0 = 103 ∨ v0 = 108 ∨ v0 = 110 ∨ v0 = 100) (hX : tw_X D h x ad a ah hi kp sl sv pd len so pos wr to) : zz_Ct l D b0 yX2_does cX2_does 6 (some .int) 6 139 0 0 [.ref x, .int v0, .int v1, .int v2, .int v3, .int v4] h (fun v h' => v = some (.int (op_does a v0 v1 v2 v3 v4).1) ∧ tw_G D h ad h' (op_does a v0 v1 v2 v3 v4).2) := by
  refine zz_Ct.of zy_X2_does.1 rfl ?_
  intro p e s m below meth c C
  have hM := hX.M
  obtain ⟨hx, h0, h1a, h2a, h3a, h4a, h5a, h6, h7, hd⟩ := id hX
  refine zz_iload_n C dX2_does_0 rfl ?_
  rcases hlet with ek | ek | ek | ek | ek | ek | ek
  · refine zz_tableIn (off := 75) (tgt := 76) C dX2_does_1 (by rw [ek]; decide) (by rw [ek]; decide) (by rw [ek]; decide) (by decide) ?_
    first | refine zz_aload_n C dX2_does_76 rfl ?_ | refine zz_aload_nN C dX2_does_76 rfl ?_
    refine zz_iload_n C dX2_does_77 rfl ?_
    refine zz_iload_n C dX2_does_78 rfl ?_
    refine zz_iload C dX2_does_79 rfl ?_
    refine zz_iload C dX2_does_81 rfl ?_
    refine zz_callV C zy_X2_quarries (ct_X2_quarries nb h5 hnb hM) rfl q1299 (by first | assumption | exact zz_us | exact zz_lk1 (by assumption) (by assumption) | exact zz_lk3 (hd _ _ (by decide) (by decide) (by decide)) (by assumption) | exact zz_uf (by assumption) (by assumption) | exact zz_lk3 (zz_xi (by assumption) (by assumption)) (zz_lk1 (by assumption) (by assumption)) | exact zz_lk3 (hd _ _ (by decide) (by decide) (by decide)) (zz_lk3 (hd _ _ (by decide) (by decide) (by decide)) (by assumption)) | (simp only [zz_up]; simp_all; done)) rfl rfl rfl rfl rfl rfl dX2_does_83 ⟨Nat.le_of_ble_eq_true rfl, Nat.le_of_ble_eq_true rfl⟩ (fun v hz hp => ?_)
    obtain ⟨rfl, ez⟩ := hp
    obtain rfl := ez.symm
    refine zz_iret C dX2_does_86 rfl rfl ?_
    first
    | (rw [op_does_113 ek]
       exact ⟨rfl, tw_G.of0 h6 rfl⟩)
    | (rw [op_does_99 ek]
       exact ⟨rfl, tw_G.of0 h6 rfl⟩)
    | (rw [op_does_111 ek]
       exact ⟨rfl, hG⟩)
    | (rw [op_does_103 ek]
       exact ⟨rfl, hG⟩)
    | (rw [op_does_108 ek]
       exact ⟨rfl, tw_G.of0 h6 rfl⟩)
    | (rw [op_does_110 ek]
       exact ⟨rfl, tw_G.of0 h6 rfl⟩)
    | (rw [op_does_100 ek]
       exact ⟨rfl, tw_G.of0 h6 rfl⟩)
  · refine zz_tableIn (off := 86) (tgt := 87) C dX2_does_1 (by rw [ek]; decide) (by rw [ek]; decide) (by rw [ek]; decide) (by decide) ?_
    first | refine zz_aload_n C dX2_does_87 rfl ?_ | refine zz_aload_nN C dX2_does_87 rfl ?_
    refine zz_iload_n C dX2_does_88 rfl ?_
    refine zz_iload_n C dX2_does_89 rfl ?_
    refine zz_iload C dX2_does_90 rfl ?_
    refine zz_callV C zy_X2_cuts (ct_X2_cuts nb h5 hnb hM) rfl q1317 (by first | assumption | exact zz_us | exact zz_lk1 (by assumption) (by assumption) | exact zz_lk3 (hd _ _ (by decide) (by decide) (by decide)) (by assumption) | exact zz_uf (by assumption) (by assumption) | exact zz_lk3 (zz_xi (by assumption) (by assumption)) (zz_lk1 (by assumption) (by assumption)) | exact zz_lk3 (hd _ _ (by decide) (by decide) (by decide)) (zz_lk3 (hd _ _ (by decide) (by decide) (by decide)) (by assumption)) | (simp only [zz_up]; simp_all; done)) rfl rfl rfl rfl rfl rfl dX2_does_92 ⟨Nat.le_of_ble_eq_true rfl, Nat.le_of_ble_eq_true rfl⟩ (fun v hz hp => ?_)
    obtain ⟨rfl, ez⟩ := hp
    obtain rfl := ez.symm
    refine zz_iret C dX2_does_95 rfl rfl ?_
    first
    | (rw [op_does_113 ek]
       exact ⟨rfl, tw_G.of0 h6 rfl⟩)
    | (rw [op_does_99 ek]
       exact ⟨rfl, tw_G.of0 h6 rfl⟩)
    | (rw [op_does_111 ek]
       exact ⟨rfl, hG⟩)
    | (rw [op_does_103 ek]
       exact ⟨rfl, hG⟩)
    | (rw [op_does_108 ek]
       exact ⟨rfl, tw_G.of0 h6 rfl⟩)
    | (rw [op_does_110 ek]
       exact ⟨rfl, tw_G.of0 h6 rfl⟩)
    | (rw [op_does_100 ek]
       exact ⟨rfl, tw_G.of0 h6 rfl⟩)
  · refine zz_tableIn (off := 95) (tgt := 96) C dX2_does_1 (by rw [ek]; decide) (by rw [ek]; decide) (by rw [ek]; decide) (by decide) ?_
    first | refine zz_aload_n C dX2_does_96 rfl ?_ | refine zz_aload_nN C dX2_does_96 rfl ?_
    refine zz_iload_n C dX2_does_97 rfl ?_
    refine zz_iload_n C dX2_does_98 rfl ?_
    refine zz_iload C dX2_does_99 rfl ?_
    refine zz_callV C zy_X2_orders (ct_X2_orders no h6o hno hX) rfl q1345 (by first | assumption | exact zz_us | exact zz_lk1 (by assumption) (by assumption) | exact zz_lk3 (hd _ _ (by decide) (by decide) (by decide)) (by assumption) | exact zz_uf (by assumption) (by assumption) | exact zz_lk3 (zz_xi (by assumption) (by assumption)) (zz_lk1 (by assumption) (by assumption)) | exact zz_lk3 (hd _ _ (by decide) (by decide) (by decide)) (zz_lk3 (hd _ _ (by decide) (by decide) (by decide)) (by assumption)) | (simp only [zz_up]; simp_all; done)) rfl rfl rfl rfl rfl rfl dX2_does_101 ⟨Nat.le_of_ble_eq_true rfl, Nat.le_of_ble_eq_true rfl⟩ (fun v hz hp => ?_)
    obtain ⟨rfl, hG⟩ := hp
    refine zz_iret C dX2_does_104 rfl rfl ?_
    first
    | (rw [op_does_113 ek]
       exact ⟨rfl, tw_G.of0 h6 rfl⟩)
    | (rw [op_does_99 ek]
       exact ⟨rfl, tw_G.of0 h6 rfl⟩)
    | (rw [op_does_111 ek]
       exact ⟨rfl, hG⟩)
    | (rw [op_does_103 ek]
       exact ⟨rfl, hG⟩)
    | (rw [op_does_108 ek]
       exact ⟨rfl, tw_G.of0 h6 rfl⟩)
    | (rw [op_does_110 ek]
       exact ⟨rfl, tw_G.of0 h6 rfl⟩)
    | (rw [op_does_100 ek]
       exact ⟨rfl, tw_G.of0 h6 rfl⟩)
  · refine zz_tableIn (off := 104) (tgt := 105) C dX2_does_1 (by rw [ek]; decide) (by rw [ek]; decide) (by rw [ek]; decide) (by decide) ?_
    first | refine zz_aload_n C dX2_does_105 rfl ?_ | refine zz_aload_nN C dX2_does_105 rfl ?_
    refine zz_iload_n C dX2_does_106 rfl ?_
    refine zz_iload_n C dX2_does_107 rfl ?_
    refine zz_callV C zy_X2_gives (ct_X2_gives nb h5 hnb no h6o hno hX) rfl q1356 (by first | assumption | exact zz_us | exact zz_lk1 (by assumption) (by assumption) | exact zz_lk3 (hd _ _ (by decide) (by decide) (by decide)) (by assumption) | exact zz_uf (by assumption) (by assumption) | exact zz_lk3 (zz_xi (by assumption) (by assumption)) (zz_lk1 (by assumption) (by assumption)) | exact zz_lk3 (hd _ _ (by decide) (by decide) (by decide)) (zz_lk3 (hd _ _ (by decide) (by decide) (by decide)) (by assumption)) | (simp only [zz_up]; simp_all; done)) rfl rfl rfl rfl rfl rfl dX2_does_108 ⟨Nat.le_of_ble_eq_true rfl, Nat.le_of_ble_eq_true rfl⟩ (fun v hz hp => ?_)
    obtain ⟨rfl, hG⟩ := hp
    refine zz_iret C dX2_does_111 rfl rfl ?_
    first
    | (rw [op_does_113 ek]
       exact ⟨rfl, tw_G.of0 h6 rfl⟩)
    | (rw [op_does_99 ek]
       exact ⟨rfl, tw_G.of0 h6 rfl⟩)
    | (rw [op_does_111 ek]
       exact ⟨rfl, hG⟩)
    | (rw [op_does_103 ek]
       exact ⟨rfl, hG⟩)
    | (rw [op_does_108 ek]
       exact ⟨rfl, tw_G.of0 h6 rfl⟩)
    | (rw [op_does_110 ek]
       exact ⟨rfl, tw_G.of0 h6 rfl⟩)
    | (rw [op_does_100 ek]
       exact ⟨rfl, tw_G.of0 h6 rfl⟩)
  · refine zz_tableIn (off := 111) (tgt := 112) C dX2_does_1 (by rw [ek]; decide) (by rw [ek]; decide) (by rw [ek]; decide) (by decide) ?_
    first | refine zz_aload_n C dX2_does_112 rfl ?_ | refine zz_aload_nN C dX2_does_112 rfl ?_
    refine zz_iload_n C dX2_does_113 rfl ?_
    refine zz_iload_n C dX2_does_114 rfl ?_
    refine zz_iload C dX2_does_115 rfl ?_
    refine zz_callV C zy_X2_loads (ct_X2_loads nb h5 hnb hM) rfl q1376 (by first | assumption | exact zz_us | exact zz_lk1 (by assumption) (by assumption) | exact zz_lk3 (hd _ _ (by decide) (by decide) (by decide)) (by assumption) | exact zz_uf (by assumption) (by assumption) | exact zz_lk3 (zz_xi (by assumption) (by assumption)) (zz_lk1 (by assumption) (by assumption)) | exact zz_lk3 (hd _ _ (by decide) (by decide) (by decide)) (zz_lk3 (hd _ _ (by decide) (by decide) (by decide)) (by assumption)) | (simp only [zz_up]; simp_all; done)) rfl rfl rfl rfl rfl rfl dX2_does_117 ⟨Nat.le_of_ble_eq_true rfl, Nat.le_of_ble_eq_true rfl⟩ (fun v hz hp => ?_)
    obtain ⟨rfl, ez⟩ := hp
    obtain rfl := ez.symm
    refine zz_iret C dX2_does_120 rfl rfl ?_
    first
    | (rw [op_does_113 ek]
       exact ⟨rfl, tw_G.of0 h6 rfl⟩)
    | (rw [op_does_99 ek]
       exact ⟨rfl, tw_G.of0 h6 rfl⟩)
    | (rw [op_does_111 ek]
       exact ⟨rfl, hG⟩)
    | (rw [op_does_103 ek]
       exact ⟨rfl, hG⟩)
    | (rw [op_does_108 ek]
       exact ⟨rfl, tw_G.of0 h6 rfl⟩)
    | (rw [op_does_110 ek]
       exact ⟨rfl, tw_G.of0 h6 rfl⟩)
    | (rw [op_does_100 ek]
       exact ⟨rfl, tw_G.of0 h6 rfl⟩)
  · refine zz_tableIn (off := 120) (tgt := 121) C dX2_does_1 (by rw [ek]; decide) (by rw [ek]; decide) (by rw [ek]; decide) (by decide) ?_
    first | refine zz_aload_n C dX2_does_121 rfl ?_ | refine zz_aload_nN C dX2_does_121 rfl ?_
    refine zz_iload_n C dX2_does_122 rfl ?_
    refine zz_callV C zy_X2_nights (ct_X2_nights nb h5 hnb hM) rfl q1391 (by first | assumption | exact zz_us | exact zz_lk1 (by assumption) (by assumption) | exact zz_lk3 (hd _ _ (by decide) (by decide) (by decide)) (by assumption) | exact zz_uf (by assumption) (by assumption) | exact zz_lk3 (zz_xi (by assumption) (by assumption)) (zz_lk1 (by assumption) (by assumption)) | exact zz_lk3 (hd _ _ (by decide) (by decide) (by decide)) (zz_lk3 (hd _ _ (by decide) (by decide) (by decide)) (by assumption)) | (simp only [zz_up]; simp_all; done)) rfl rfl rfl rfl rfl rfl dX2_does_123 ⟨Nat.le_of_ble_eq_true rfl, Nat.le_of_ble_eq_true rfl⟩ (fun v hz hp => ?_)
    obtain ⟨rfl, ez⟩ := hp
    obtain rfl := ez.symm
    refine zz_iret C dX2_does_126 rfl rfl ?_
    first
    | (rw [op_does_113 ek]
       exact ⟨rfl, tw_G.of0 h6 rfl⟩)
    | (rw [op_does_99 ek]
       exact ⟨rfl, tw_G.of0 h6 rfl⟩)
    | (rw [op_does_111 ek]
       exact ⟨rfl, hG⟩)
    | (rw [op_does_103 ek]
       exact ⟨rfl, hG⟩)
    | (rw [op_does_108 ek]
       exact ⟨rfl, tw_G.of0 h6 rfl⟩)
    | (rw [op_does_110 ek]
       exact ⟨rfl, tw_G.of0 h6 rfl⟩)
    | (rw [op_does_100 ek]
       exact ⟨rfl, tw_G.of0 h6 rfl⟩)
  · refine zz_tableIn (off := 126) (tgt := 127) C dX2_does_1 (by rw [ek]; decide) (by rw [ek]; decide) (by rw [ek]; decide) (by decide) ?_
    first | refine zz_aload_n C dX2_does_127 rfl ?_ | refine zz_aload_nN C dX2_does_127 rfl ?_
    refine zz_iload_n C dX2_does_128 rfl ?_
    refine zz_callV C zy_X2_leaves (ct_X2_leaves nb h5 hnb hw hob hM) rfl q1399 (by first | assumption | exact zz_us | exact zz_lk1 (by assumption) (by assumption) | exact zz_lk3 (hd _ _ (by decide) (by decide) (by decide)) (by assumption) | exact zz_uf (by assumption) (by assumption) | exact zz_lk3 (zz_xi (by assumption) (by assumption)) (zz_lk1 (by assumption) (by assumption)) | exact zz_lk3 (hd _ _ (by decide) (by decide) (by decide)) (zz_lk3 (hd _ _ (by decide) (by decide) (by decide)) (by assumption)) | (simp only [zz_up]; simp_all; done)) rfl rfl rfl rfl rfl rfl dX2_does_129 ⟨Nat.le_of_ble_eq_true rfl, Nat.le_of_ble_eq_true rfl⟩ (fun v hz hp => ?_)
    obtain ⟨rfl, ez⟩ := hp
    obtain rfl := ez.symm
    refine zz_iret C dX2_does_132 rfl rfl ?_
    first
    | (rw [op_does_113 ek]
       exact ⟨rfl, tw_G.of0 h6 rfl⟩)
    | (rw [op_does_99 ek]
       exact ⟨rfl, tw_G.of0 h6 rfl⟩)
    | (rw [op_does_111 ek]
       exact ⟨rfl, hG⟩)
    | (rw [op_does_103 ek]
       exact ⟨rfl, hG⟩)
    | (rw [op_does_108 ek]
       exact ⟨rfl, tw_G.of0 h6 rfl⟩)
    | (rw [op_does_110 ek]
       exact ⟨rfl, tw_G.of0 h6 rfl⟩)
    | (rw [op_does_100 ek]
       exact ⟨rfl, tw_G.of0 h6 rfl⟩)

theorem ct_X2_tries {l : Launch} {D : va_G} {b0 : Nat} {h : zz_H} {x : Nat} {ad : Nat → Nat} {a hi : Nat → Int32} {kp : Nat} {sl sv pd : Nat → Int32} {len : Nat} (hkp : kp ≤ 6) {v0 v1 v2 v3 v4 : Int32} (nb : Nat) (h5 : a 5 = nI nb) (hnb : nb ≤ 24) (no : Nat) (h6o : a 6 = nI no) (hno : no ≤ 10) (hw : qa_wk a nb) (hob : qa_ob a nb) (hlet : v0 = 113 ∨ v0 = 99 ∨ v0 = 111 ∨ v0 = 103 ∨ v0 = 108 ∨ v0 = 110 ∨ v0 = 100) (hS : tw_S D h x ad a hi kp sl sv pd len)  : zz_Ct l D b0 yX2_tries cX2_tries 7 (some .int) 7 164 0 0 [.ref x, .int v0, .int v1, .int v2, .int v3, .int v4] h (fun v h' => ∃ (hi' : Nat → Int32) (kp' : Nat), v = some (.int (op_does a v0 v1 v2 v3 v4).1) ∧ tw_S D h' x ad (op_does a v0 v1 v2 v3 v4).2 hi' kp' sl sv pd len ∧ tw_F x ad h h' ∧ qa_rc (decide (0 ≤ (op_does a v0 v1 v2 v3 v4).1)) hi kp a hi' kp') := by
  refine zz_Ct.of zy_X2_tries.1 rfl ?_
  intro p e s m below meth c C
  obtain ⟨ah, so, pos, wr, to, hX⟩ := hS
  have hM := hX.M
  obtain ⟨hx, h0, h1a, h2a, h3a, h4a, h5a, h6, h7, hd⟩ := id hX
  first | refine zz_aload_n C dX2_tries_0 rfl ?_ | refine zz_aload_nN C dX2_tries_0 rfl ?_
  refine zz_callV C zy_X2_looks (ct_X2_looks hX) rfl q1279 (by first | assumption | exact zz_us | exact zz_lk1 (by assumption) (by assumption) | exact zz_lk3 (hd _ _ (by decide) (by decide) (by decide)) (by assumption) | exact zz_uf (by assumption) (by assumption) | exact zz_lk3 (zz_xi (by assumption) (by assumption)) (zz_lk1 (by assumption) (by assumption)) | exact zz_lk3 (hd _ _ (by decide) (by decide) (by decide)) (zz_lk3 (hd _ _ (by decide) (by decide) (by decide)) (by assumption)) | (simp only [zz_up]; simp_all; done)) rfl rfl rfl rfl rfl rfl dX2_tries_1 ⟨Nat.le_of_ble_eq_true rfl, Nat.le_of_ble_eq_true rfl⟩ (fun v hz hp => ?_)
  obtain ⟨g, ⟨rfl, hg⟩, ez⟩ := hp
  have hX1 := hX.u1 g
  have hF1 : tw_F x ad h _ := tw_F.up (h := h) (e := .inl (D.1 100, 324, .inl g)) 1 (by decide)
  rw [← ez] at hX1 hF1
  have hx1 := hX1.1
  first | refine zz_aload_n C dX2_tries_4 rfl ?_ | refine zz_aload_nN C dX2_tries_4 rfl ?_
  refine zz_iload_n C dX2_tries_5 rfl ?_
  refine zz_iload_n C dX2_tries_6 rfl ?_
  refine zz_iload_n C dX2_tries_7 rfl ?_
  refine zz_iload C dX2_tries_8 rfl ?_
  refine zz_iload C dX2_tries_10 rfl ?_
  refine zz_callV C zy_X2_does (ct_X2_does nb h5 hnb no h6o hno hw hob hlet hX1) rfl q1295 hx1 rfl rfl rfl rfl rfl rfl dX2_tries_12 ⟨Nat.le_of_ble_eq_true rfl, Nat.le_of_ble_eq_true rfl⟩ (fun v hz hp => ?_)
  obtain ⟨rfl, hG⟩ := hp
  obtain ⟨so2, hX2⟩ := hG.X hX1
  have hF2 := hF1.tr hG.F
  clear hx h0 h1a h2a h3a h4a h5a h6 h7 hx1
  obtain ⟨hx, h0, h1a, h2a, h3a, h4a, h5a, h6, h7, -⟩ := id hX2
  refine zz_istore C dX2_tries_15 (by decide) ?_
  refine zz_iload C dX2_tries_17 rfl ?_
  refine zz_if_lt (tgt := 26) C dX2_tries_19 (by decide) (fun c19 => ?_) (fun c19 => ?_)
  · refine zz_iload C dX2_tries_26 rfl ?_
    refine zz_iret C dX2_tries_28 rfl rfl ?_
    first
    | exact ⟨hi, kp, rfl, hX2.S, hF2, qa_rc_f (decide_eq_false (Int32.not_le.mpr c19))⟩
    | exact ⟨hi', kp', rfl, hX3.S, hF2.tr hF3, qa_rc_t (decide_eq_true (Int32.not_lt.mp c19)) (hR3.of hg)⟩
  · first | refine zz_aload_n C dX2_tries_22 rfl ?_ | refine zz_aload_nN C dX2_tries_22 rfl ?_
    refine zz_callV C zy_X2_records (ct_X2_records hkp hX2) rfl q1283 (by first | assumption | exact zz_us | exact zz_lk1 (by assumption) (by assumption) | exact zz_lk3 (hd _ _ (by decide) (by decide) (by decide)) (by assumption) | exact zz_uf (by assumption) (by assumption) | exact zz_lk3 (zz_xi (by assumption) (by assumption)) (zz_lk1 (by assumption) (by assumption)) | exact zz_lk3 (hd _ _ (by decide) (by decide) (by decide)) (zz_lk3 (hd _ _ (by decide) (by decide) (by decide)) (by assumption)) | (simp only [zz_up]; simp_all; done)) rfl rfl rfl rfl rfl rfl dX2_tries_23 ⟨Nat.le_of_ble_eq_true rfl, Nat.le_of_ble_eq_true rfl⟩ (fun v hz hp => ?_)
    obtain ⟨hi', kp', rfl, hX3, hF3, hR3⟩ := hp
    refine zz_iload C dX2_tries_26 rfl ?_
    refine zz_iret C dX2_tries_28 rfl rfl ?_
    first
    | exact ⟨hi, kp, rfl, hX2.S, hF2, qa_rc_f (decide_eq_false (Int32.not_le.mpr c19))⟩
    | exact ⟨hi', kp', rfl, hX3.S, hF2.tr hF3, qa_rc_t (decide_eq_true (Int32.not_lt.mp c19)) (hR3.of hg)⟩

theorem ct_X2_quarry {l : Launch} {D : va_G} {b0 : Nat} {h : zz_H} {x : Nat} {ad : Nat → Nat} {a hi : Nat → Int32} {kp : Nat} {sl sv pd : Nat → Int32} {len : Nat} (hkp : kp ≤ 6) {v0 v1 v2 v3 : Int32} (nb : Nat) (h5 : a 5 = nI nb) (hnb : nb ≤ 24) (no : Nat) (h6o : a 6 = nI no) (hno : no ≤ 10) (hw : qa_wk a nb) (hob : qa_ob a nb) (hS : tw_S D h x ad a hi kp sl sv pd len)  : zz_Ct l D b0 yX2_quarry cX2_quarry 5 (some .int) 8 190 0 0 [.ref x, .int v0, .int v1, .int v2, .int v3] h (fun v h' => ∃ (hi' : Nat → Int32) (kp' : Nat), v = some (.int (op_does a 113 v0 v1 v2 v3).1) ∧ tw_S D h' x ad (op_does a 113 v0 v1 v2 v3).2 hi' kp' sl sv pd len ∧ tw_F x ad h h' ∧ qa_rc (decide (0 ≤ (op_does a 113 v0 v1 v2 v3).1)) hi kp a hi' kp') := by
  refine zz_Ct.of zy_X2_quarry.1 rfl ?_
  intro p e s m below meth c C
  obtain ⟨ah, so, pos, wr, to, hX⟩ := id hS
  have hM := hX.M
  obtain ⟨hx, h0, h1a, h2a, h3a, h4a, h5a, h6, h7, hd⟩ := id hX
  first | refine zz_aload_n C dX2_quarry_0 rfl ?_ | refine zz_aload_nN C dX2_quarry_0 rfl ?_
  refine zz_bipush (v := 113) C dX2_quarry_1 (by decide) ?_
  refine zz_iload_n C dX2_quarry_3 rfl ?_
  refine zz_iload_n C dX2_quarry_4 rfl ?_
  refine zz_iload_n C dX2_quarry_5 rfl ?_
  refine zz_iload C dX2_quarry_6 rfl ?_
  refine zz_callV C zy_X2_tries (ct_X2_tries hkp nb h5 hnb no h6o hno hw hob (Or.inl rfl) hS) rfl q1291 (by first | assumption | exact zz_us | exact zz_lk1 (by assumption) (by assumption) | exact zz_lk3 (hd _ _ (by decide) (by decide) (by decide)) (by assumption) | exact zz_uf (by assumption) (by assumption) | exact zz_lk3 (zz_xi (by assumption) (by assumption)) (zz_lk1 (by assumption) (by assumption)) | exact zz_lk3 (hd _ _ (by decide) (by decide) (by decide)) (zz_lk3 (hd _ _ (by decide) (by decide) (by decide)) (by assumption)) | (simp only [zz_up]; simp_all; done)) rfl rfl rfl rfl rfl rfl dX2_quarry_8 ⟨Nat.le_of_ble_eq_true rfl, Nat.le_of_ble_eq_true rfl⟩ (fun v hz hp => ?_)
  obtain ⟨hi', kp', rfl, hS1, hF1, hR1⟩ := hp
  refine zz_iret C dX2_quarry_11 rfl rfl ?_
  exact ⟨hi', kp', rfl, hS1, hF1, hR1⟩

theorem ct_X2_cut {l : Launch} {D : va_G} {b0 : Nat} {h : zz_H} {x : Nat} {ad : Nat → Nat} {a hi : Nat → Int32} {kp : Nat} {sl sv pd : Nat → Int32} {len : Nat} (hkp : kp ≤ 6) {v0 v1 v2 : Int32} (nb : Nat) (h5 : a 5 = nI nb) (hnb : nb ≤ 24) (no : Nat) (h6o : a 6 = nI no) (hno : no ≤ 10) (hw : qa_wk a nb) (hob : qa_ob a nb) (hS : tw_S D h x ad a hi kp sl sv pd len)  : zz_Ct l D b0 yX2_cut cX2_cut 4 (some .int) 8 190 0 0 [.ref x, .int v0, .int v1, .int v2] h (fun v h' => ∃ (hi' : Nat → Int32) (kp' : Nat), v = some (.int (op_does a 99 v0 v1 v2 0).1) ∧ tw_S D h' x ad (op_does a 99 v0 v1 v2 0).2 hi' kp' sl sv pd len ∧ tw_F x ad h h' ∧ qa_rc (decide (0 ≤ (op_does a 99 v0 v1 v2 0).1)) hi kp a hi' kp') := by
  refine zz_Ct.of zy_X2_cut.1 rfl ?_
  intro p e s m below meth c C
  obtain ⟨ah, so, pos, wr, to, hX⟩ := id hS
  have hM := hX.M
  obtain ⟨hx, h0, h1a, h2a, h3a, h4a, h5a, h6, h7, hd⟩ := id hX
  first | refine zz_aload_n C dX2_cut_0 rfl ?_ | refine zz_aload_nN C dX2_cut_0 rfl ?_
  refine zz_bipush (v := 99) C dX2_cut_1 (by decide) ?_
  refine zz_iload_n C dX2_cut_3 rfl ?_
  refine zz_iload_n C dX2_cut_4 rfl ?_
  refine zz_iload_n C dX2_cut_5 rfl ?_
  refine zz_iconst (v := 0) C dX2_cut_6 (by decide) ?_
  refine zz_callV C zy_X2_tries (ct_X2_tries hkp nb h5 hnb no h6o hno hw hob (Or.inr (Or.inl rfl)) hS) rfl q1291 (by first | assumption | exact zz_us | exact zz_lk1 (by assumption) (by assumption) | exact zz_lk3 (hd _ _ (by decide) (by decide) (by decide)) (by assumption) | exact zz_uf (by assumption) (by assumption) | exact zz_lk3 (zz_xi (by assumption) (by assumption)) (zz_lk1 (by assumption) (by assumption)) | exact zz_lk3 (hd _ _ (by decide) (by decide) (by decide)) (zz_lk3 (hd _ _ (by decide) (by decide) (by decide)) (by assumption)) | (simp only [zz_up]; simp_all; done)) rfl rfl rfl rfl rfl rfl dX2_cut_7 ⟨Nat.le_of_ble_eq_true rfl, Nat.le_of_ble_eq_true rfl⟩ (fun v hz hp => ?_)
  obtain ⟨hi', kp', rfl, hS1, hF1, hR1⟩ := hp
  refine zz_iret C dX2_cut_10 rfl rfl ?_
  exact ⟨hi', kp', rfl, hS1, hF1, hR1⟩

theorem ct_X2_order {l : Launch} {D : va_G} {b0 : Nat} {h : zz_H} {x : Nat} {ad : Nat → Nat} {a hi : Nat → Int32} {kp : Nat} {sl sv pd : Nat → Int32} {len : Nat} (hkp : kp ≤ 6) {v0 v1 v2 : Int32} (nb : Nat) (h5 : a 5 = nI nb) (hnb : nb ≤ 24) (no : Nat) (h6o : a 6 = nI no) (hno : no ≤ 10) (hw : qa_wk a nb) (hob : qa_ob a nb) (hS : tw_S D h x ad a hi kp sl sv pd len)  : zz_Ct l D b0 yX2_order cX2_order 4 (some .int) 8 190 0 0 [.ref x, .int v0, .int v1, .int v2] h (fun v h' => ∃ (hi' : Nat → Int32) (kp' : Nat), v = some (.int (op_does a 111 v0 v1 v2 0).1) ∧ tw_S D h' x ad (op_does a 111 v0 v1 v2 0).2 hi' kp' sl sv pd len ∧ tw_F x ad h h' ∧ qa_rc (decide (0 ≤ (op_does a 111 v0 v1 v2 0).1)) hi kp a hi' kp') := by
  refine zz_Ct.of zy_X2_order.1 rfl ?_
  intro p e s m below meth c C
  obtain ⟨ah, so, pos, wr, to, hX⟩ := id hS
  have hM := hX.M
  obtain ⟨hx, h0, h1a, h2a, h3a, h4a, h5a, h6, h7, hd⟩ := id hX
  first | refine zz_aload_n C dX2_order_0 rfl ?_ | refine zz_aload_nN C dX2_order_0 rfl ?_
  refine zz_bipush (v := 111) C dX2_order_1 (by decide) ?_
  refine zz_iload_n C dX2_order_3 rfl ?_
  refine zz_iload_n C dX2_order_4 rfl ?_
  refine zz_iload_n C dX2_order_5 rfl ?_
  refine zz_iconst (v := 0) C dX2_order_6 (by decide) ?_
  refine zz_callV C zy_X2_tries (ct_X2_tries hkp nb h5 hnb no h6o hno hw hob (Or.inr (Or.inr (Or.inl rfl))) hS) rfl q1291 (by first | assumption | exact zz_us | exact zz_lk1 (by assumption) (by assumption) | exact zz_lk3 (hd _ _ (by decide) (by decide) (by decide)) (by assumption) | exact zz_uf (by assumption) (by assumption) | exact zz_lk3 (zz_xi (by assumption) (by assumption)) (zz_lk1 (by assumption) (by assumption)) | exact zz_lk3 (hd _ _ (by decide) (by decide) (by decide)) (zz_lk3 (hd _ _ (by decide) (by decide) (by decide)) (by assumption)) | (simp only [zz_up]; simp_all; done)) rfl rfl rfl rfl rfl rfl dX2_order_7 ⟨Nat.le_of_ble_eq_true rfl, Nat.le_of_ble_eq_true rfl⟩ (fun v hz hp => ?_)
  obtain ⟨hi', kp', rfl, hS1, hF1, hR1⟩ := hp
  refine zz_iret C dX2_order_10 rfl rfl ?_
  exact ⟨hi', kp', rfl, hS1, hF1, hR1⟩

theorem ct_X2_give {l : Launch} {D : va_G} {b0 : Nat} {h : zz_H} {x : Nat} {ad : Nat → Nat} {a hi : Nat → Int32} {kp : Nat} {sl sv pd : Nat → Int32} {len : Nat} (hkp : kp ≤ 6) {v0 v1 : Int32} (nb : Nat) (h5 : a 5 = nI nb) (hnb : nb ≤ 24) (no : Nat) (h6o : a 6 = nI no) (hno : no ≤ 10) (hw : qa_wk a nb) (hob : qa_ob a nb) (hS : tw_S D h x ad a hi kp sl sv pd len)  : zz_Ct l D b0 yX2_give cX2_give 3 (some .int) 8 190 0 0 [.ref x, .int v0, .int v1] h (fun v h' => ∃ (hi' : Nat → Int32) (kp' : Nat), v = some (.int (op_does a 103 v0 v1 0 0).1) ∧ tw_S D h' x ad (op_does a 103 v0 v1 0 0).2 hi' kp' sl sv pd len ∧ tw_F x ad h h' ∧ qa_rc (decide (0 ≤ (op_does a 103 v0 v1 0 0).1)) hi kp a hi' kp') := by
  refine zz_Ct.of zy_X2_give.1 rfl ?_
  intro p e s m below meth c C
  obtain ⟨ah, so, pos, wr, to, hX⟩ := id hS
  have hM := hX.M
  obtain ⟨hx, h0, h1a, h2a, h3a, h4a, h5a, h6, h7, hd⟩ := id hX
  first | refine zz_aload_n C dX2_give_0 rfl ?_ | refine zz_aload_nN C dX2_give_0 rfl ?_
  refine zz_bipush (v := 103) C dX2_give_1 (by decide) ?_
  refine zz_iload_n C dX2_give_3 rfl ?_
  refine zz_iload_n C dX2_give_4 rfl ?_
  refine zz_iconst (v := 0) C dX2_give_5 (by decide) ?_
  refine zz_iconst (v := 0) C dX2_give_6 (by decide) ?_
  refine zz_callV C zy_X2_tries (ct_X2_tries hkp nb h5 hnb no h6o hno hw hob (Or.inr (Or.inr (Or.inr (Or.inl rfl)))) hS) rfl q1291 (by first | assumption | exact zz_us | exact zz_lk1 (by assumption) (by assumption) | exact zz_lk3 (hd _ _ (by decide) (by decide) (by decide)) (by assumption) | exact zz_uf (by assumption) (by assumption) | exact zz_lk3 (zz_xi (by assumption) (by assumption)) (zz_lk1 (by assumption) (by assumption)) | exact zz_lk3 (hd _ _ (by decide) (by decide) (by decide)) (zz_lk3 (hd _ _ (by decide) (by decide) (by decide)) (by assumption)) | (simp only [zz_up]; simp_all; done)) rfl rfl rfl rfl rfl rfl dX2_give_7 ⟨Nat.le_of_ble_eq_true rfl, Nat.le_of_ble_eq_true rfl⟩ (fun v hz hp => ?_)
  obtain ⟨hi', kp', rfl, hS1, hF1, hR1⟩ := hp
  refine zz_iret C dX2_give_10 rfl rfl ?_
  exact ⟨hi', kp', rfl, hS1, hF1, hR1⟩

theorem ct_X2_load {l : Launch} {D : va_G} {b0 : Nat} {h : zz_H} {x : Nat} {ad : Nat → Nat} {a hi : Nat → Int32} {kp : Nat} {sl sv pd : Nat → Int32} {len : Nat} (hkp : kp ≤ 6) {v0 v1 v2 : Int32} (nb : Nat) (h5 : a 5 = nI nb) (hnb : nb ≤ 24) (no : Nat) (h6o : a 6 = nI no) (hno : no ≤ 10) (hw : qa_wk a nb) (hob : qa_ob a nb) (hS : tw_S D h x ad a hi kp sl sv pd len)  : zz_Ct l D b0 yX2_load cX2_load 4 (some .int) 8 190 0 0 [.ref x, .int v0, .int v1, .int v2] h (fun v h' => ∃ (hi' : Nat → Int32) (kp' : Nat), v = some (.int (op_does a 108 v0 v1 v2 0).1) ∧ tw_S D h' x ad (op_does a 108 v0 v1 v2 0).2 hi' kp' sl sv pd len ∧ tw_F x ad h h' ∧ qa_rc (decide (0 ≤ (op_does a 108 v0 v1 v2 0).1)) hi kp a hi' kp') := by
  refine zz_Ct.of zy_X2_load.1 rfl ?_
  intro p e s m below meth c C
  obtain ⟨ah, so, pos, wr, to, hX⟩ := id hS
  have hM := hX.M
  obtain ⟨hx, h0, h1a, h2a, h3a, h4a, h5a, h6, h7, hd⟩ := id hX
  first | refine zz_aload_n C dX2_load_0 rfl ?_ | refine zz_aload_nN C dX2_load_0 rfl ?_
  refine zz_bipush (v := 108) C dX2_load_1 (by decide) ?_
  refine zz_iload_n C dX2_load_3 rfl ?_
  refine zz_iload_n C dX2_load_4 rfl ?_
  refine zz_iload_n C dX2_load_5 rfl ?_
  refine zz_iconst (v := 0) C dX2_load_6 (by decide) ?_
  refine zz_callV C zy_X2_tries (ct_X2_tries hkp nb h5 hnb no h6o hno hw hob (Or.inr (Or.inr (Or.inr (Or.inr (Or.inl rfl))))) hS) rfl q1291 (by first | assumption | exact zz_us | exact zz_lk1 (by assumption) (by assumption) | exact zz_lk3 (hd _ _ (by decide) (by decide) (by decide)) (by assumption) | exact zz_uf (by assumption) (by assumption) | exact zz_lk3 (zz_xi (by assumption) (by assumption)) (zz_lk1 (by assumption) (by assumption)) | exact zz_lk3 (hd _ _ (by decide) (by decide) (by decide)) (zz_lk3 (hd _ _ (by decide) (by decide) (by decide)) (by assumption)) | (simp only [zz_up]; simp_all; done)) rfl rfl rfl rfl rfl rfl dX2_load_7 ⟨Nat.le_of_ble_eq_true rfl, Nat.le_of_ble_eq_true rfl⟩ (fun v hz hp => ?_)
  obtain ⟨hi', kp', rfl, hS1, hF1, hR1⟩ := hp
  refine zz_iret C dX2_load_10 rfl rfl ?_
  exact ⟨hi', kp', rfl, hS1, hF1, hR1⟩

theorem ct_X2_leave {l : Launch} {D : va_G} {b0 : Nat} {h : zz_H} {x : Nat} {ad : Nat → Nat} {a hi : Nat → Int32} {kp : Nat} {sl sv pd : Nat → Int32} {len : Nat} (hkp : kp ≤ 6) {v0 : Int32} (nb : Nat) (h5 : a 5 = nI nb) (hnb : nb ≤ 24) (no : Nat) (h6o : a 6 = nI no) (hno : no ≤ 10) (hw : qa_wk a nb) (hob : qa_ob a nb) (hS : tw_S D h x ad a hi kp sl sv pd len)  : zz_Ct l D b0 yX2_leave cX2_leave 2 (some .int) 8 190 0 0 [.ref x, .int v0] h (fun v h' => ∃ (hi' : Nat → Int32) (kp' : Nat), v = some (.int (op_does a 100 v0 0 0 0).1) ∧ tw_S D h' x ad (op_does a 100 v0 0 0 0).2 hi' kp' sl sv pd len ∧ tw_F x ad h h' ∧ qa_rc (decide (0 ≤ (op_does a 100 v0 0 0 0).1)) hi kp a hi' kp') := by
  refine zz_Ct.of zy_X2_leave.1 rfl ?_
  intro p e s m below meth c C
  obtain ⟨ah, so, pos, wr, to, hX⟩ := id hS
  have hM := hX.M
  obtain ⟨hx, h0, h1a, h2a, h3a, h4a, h5a, h6, h7, hd⟩ := id hX
  first | refine zz_aload_n C dX2_leave_0 rfl ?_ | refine zz_aload_nN C dX2_leave_0 rfl ?_
  refine zz_bipush (v := 100) C dX2_leave_1 (by decide) ?_
  refine zz_iload_n C dX2_leave_3 rfl ?_
  refine zz_iconst (v := 0) C dX2_leave_4 (by decide) ?_
  refine zz_iconst (v := 0) C dX2_leave_5 (by decide) ?_
  refine zz_iconst (v := 0) C dX2_leave_6 (by decide) ?_
  refine zz_callV C zy_X2_tries (ct_X2_tries hkp nb h5 hnb no h6o hno hw hob (Or.inr (Or.inr (Or.inr (Or.inr (Or.inr (Or.inr (rfl))))))) hS) rfl q1291 (by first | assumption | exact zz_us | exact zz_lk1 (by assumption) (by assumption) | exact zz_lk3 (hd _ _ (by decide) (by decide) (by decide)) (by assumption) | exact zz_uf (by assumption) (by assumption) | exact zz_lk3 (zz_xi (by assumption) (by assumption)) (zz_lk1 (by assumption) (by assumption)) | exact zz_lk3 (hd _ _ (by decide) (by decide) (by decide)) (zz_lk3 (hd _ _ (by decide) (by decide) (by decide)) (by assumption)) | (simp only [zz_up]; simp_all; done)) rfl rfl rfl rfl rfl rfl dX2_leave_7 ⟨Nat.le_of_ble_eq_true rfl, Nat.le_of_ble_eq_true rfl⟩ (fun v hz hp => ?_)
  obtain ⟨hi', kp', rfl, hS1, hF1, hR1⟩ := hp
  refine zz_iret C dX2_leave_10 rfl rfl ?_
  exact ⟨hi', kp', rfl, hS1, hF1, hR1⟩

theorem ct_X2_night {l : Launch} {D : va_G} {b0 : Nat} {h : zz_H} {x : Nat} {ad : Nat → Nat} {a hi : Nat → Int32} {kp : Nat} {sl sv pd : Nat → Int32} {len : Nat} (hkp : kp ≤ 6) {v0 : Int32} (nb : Nat) (h5 : a 5 = nI nb) (hnb : nb ≤ 24) (no : Nat) (h6o : a 6 = nI no) (hno : no ≤ 10) (hw : qa_wk a nb) (hob : qa_ob a nb) (hS : tw_S D h x ad a hi kp sl sv pd len)  : zz_Ct l D b0 yX2_night cX2_night 2 (some .int) 8 190 0 0 [.ref x, .int v0] h (fun v h' => ∃ (hi' : Nat → Int32) (kp' : Nat), v = some (.int (op_does a 110 v0 0 0 0).1) ∧ tw_S D h' x ad (op_does a 110 v0 0 0 0).2 hi' kp' sl sv pd len ∧ tw_F x ad h h' ∧ qa_rc (decide (0 ≤ (op_does a 110 v0 0 0 0).1)) hi kp a hi' kp') := by
  refine zz_Ct.of zy_X2_night.1 rfl ?_
  intro p e s m below meth c C
  obtain ⟨ah, so, pos, wr, to, hX⟩ := id hS
  have hM := hX.M
  obtain ⟨hx, h0, h1a, h2a, h3a, h4a, h5a, h6, h7, hd⟩ := id hX
  first | refine zz_aload_n C dX2_night_0 rfl ?_ | refine zz_aload_nN C dX2_night_0 rfl ?_
  refine zz_bipush (v := 110) C dX2_night_1 (by decide) ?_
  refine zz_iload_n C dX2_night_3 rfl ?_
  refine zz_iconst (v := 0) C dX2_night_4 (by decide) ?_
  refine zz_iconst (v := 0) C dX2_night_5 (by decide) ?_
  refine zz_iconst (v := 0) C dX2_night_6 (by decide) ?_
  refine zz_callV C zy_X2_tries (ct_X2_tries hkp nb h5 hnb no h6o hno hw hob (Or.inr (Or.inr (Or.inr (Or.inr (Or.inr (Or.inl rfl)))))) hS) rfl q1291 (by first | assumption | exact zz_us | exact zz_lk1 (by assumption) (by assumption) | exact zz_lk3 (hd _ _ (by decide) (by decide) (by decide)) (by assumption) | exact zz_uf (by assumption) (by assumption) | exact zz_lk3 (zz_xi (by assumption) (by assumption)) (zz_lk1 (by assumption) (by assumption)) | exact zz_lk3 (hd _ _ (by decide) (by decide) (by decide)) (zz_lk3 (hd _ _ (by decide) (by decide) (by decide)) (by assumption)) | (simp only [zz_up]; simp_all; done)) rfl rfl rfl rfl rfl rfl dX2_night_7 ⟨Nat.le_of_ble_eq_true rfl, Nat.le_of_ble_eq_true rfl⟩ (fun v hz hp => ?_)
  obtain ⟨hi', kp', rfl, hS1, hF1, hR1⟩ := hp
  refine zz_iret C dX2_night_10 rfl rfl ?_
  exact ⟨hi', kp', rfl, hS1, hF1, hR1⟩

