/-! the twin: changes of its row of numbers -/
theorem ct_X2_newBlock {l : Launch} {D : va_G} {b0 : Nat} {h : zz_H} {x s0 : Nat} {a : Nat → Int32} {v0 v1 v2 v3 : Int32} (nb : Nat) (h5 : a 5 = nI nb) (hnb : nb < 24) (hM : tw_M D h x s0 a) : zz_Ct l D b0 yX2_newBlock cX2_newBlock 7 (some .int) 1 21 0 0 [.ref x, .int v0, .int v1, .int v2, .int v3] h (fun v h' => v = some (.int (nI nb)) ∧ h' = zz_up h s0 (.inl (D.1 100, 324, .inl (qa_new a nb v0 v1 v2 v3)))) := by
  refine zz_Ct.of zy_X2_newBlock.1 rfl ?_
  intro p e s m below meth c C
  have hM0 := hM
  obtain ⟨fs, hx, hf0, hs⟩ := hM0
  first | refine zz_aload_n C dX2_newBlock_0 rfl ?_ | refine zz_aload_nN C dX2_newBlock_0 rfl ?_
  refine zz_get C rfl (by first | assumption | exact zz_us | exact zz_lk1 (by assumption) (by assumption) | exact zz_lk3 (hd _ _ (by decide) (by decide) (by decide)) (by assumption) | exact zz_uf (by assumption) (by assumption) | (simp only [zz_up]; simp_all; done)) rfl in_X2 0 rfl q1230 (fun _ h => h) (by first | rfl | assumption) dX2_newBlock_1 ?_
  refine zz_iconst (v := nI 5) C dX2_newBlock_4 (by decide) ?_
  refine zz_iald C (by first | assumption | exact zz_us | exact zz_lk1 (by assumption) (by assumption) | exact zz_lk3 (hd _ _ (by decide) (by decide) (by decide)) (by assumption) | exact zz_uf (by assumption) (by assumption) | (simp only [zz_up]; simp_all; done)) rfl (by omega) (by omega) dX2_newBlock_5 ?_
  refine zz_istore C dX2_newBlock_6 (by decide) ?_
  first | refine zz_aload_n C dX2_newBlock_8 rfl ?_ | refine zz_aload_nN C dX2_newBlock_8 rfl ?_
  refine zz_get C rfl (by first | assumption | exact zz_us | exact zz_lk1 (by assumption) (by assumption) | exact zz_lk3 (hd _ _ (by decide) (by decide) (by decide)) (by assumption) | exact zz_uf (by assumption) (by assumption) | (simp only [zz_up]; simp_all; done)) rfl in_X2 0 rfl q1230 (fun _ h => h) (by first | rfl | assumption) dX2_newBlock_9 ?_
  refine zz_iconst (v := nI 5) C dX2_newBlock_12 (by decide) ?_
  refine zz_dup2 C dX2_newBlock_13 rfl rfl ?_
  refine zz_iald C (by first | assumption | exact zz_us | exact zz_lk1 (by assumption) (by assumption) | exact zz_lk3 (hd _ _ (by decide) (by decide) (by decide)) (by assumption) | exact zz_uf (by assumption) (by assumption) | (simp only [zz_up]; simp_all; done)) rfl (by omega) (by omega) dX2_newBlock_14 ?_
  refine zz_iconst (v := 1) C dX2_newBlock_15 (by decide) ?_
  refine zz_iadd C dX2_newBlock_16 ?_
  first | refine zz_iast2 C rfl (by omega) (by omega) dX2_newBlock_17 ?_ | refine zz_iast C (by first | assumption | exact zz_us | exact zz_lk1 (by assumption) (by assumption) | exact zz_lk3 (hd _ _ (by decide) (by decide) (by decide)) (by assumption) | exact zz_uf (by assumption) (by assumption) | (simp only [zz_up]; simp_all; done)) rfl (by omega) (by omega) dX2_newBlock_17 ?_
  refine zz_iconst (v := 0) C dX2_newBlock_18 (by decide) ?_
  refine zz_istore C dX2_newBlock_19 (by decide) ?_
  have L21 : ∀ (n : Nat) (i : Nat), i ≤ 10 → 11 ≤ i + n → zz_V D b0 7 p l e ({ frames := 1, cells := 0, slots := 0, locals := 21 } : Jvm.Room) s m ([.ref x, .int v0, .int v1, .int v2, .int v3] : List Value).toArray below meth c (MQ below (zz_Q D b0 (fun v h' => v = some (.int (nI nb)) ∧ h' = zz_up h s0 (.inl (D.1 100, 324, .inl (qa_new a nb v0 v1 v2 v3))))) ([.ref x, .int v0, .int v1, .int v2, .int v3] : List Value).toArray s 0 0 (fun q => b0 ≤ q)) 0 0 (zz_up h s0 (.inl (D.1 100, 324, .inl (qa_zero (upd a 5 (a 5 + 1)) nb i)))) [(0, .ref x), (1, .int v0), (2, .int v1), (3, .int v2), (4, .int v3), (5, .int (a 5)), (6, .int (nI i))] 21 [] := by
    intro n
    induction n with
    | zero =>
      intro i h1 h2
      exact absurd h2 (by omega)
    | succ n ih =>
      intro i h1 h2
      refine zz_iload C dX2_newBlock_21 rfl ?_
      refine zz_bipush (v := 10) C dX2_newBlock_23 (by decide) ?_
      refine zz_icmp_ge (tgt := 47) C dX2_newBlock_25 (by decide) (fun c25 => ?_) (fun c25 => ?_)
      · have hi2 : 10 ≤ i := (nI_leI (a := 10) (by omega) (by omega)).mp c25
        obtain rfl : i = 10 := by omega
        first | refine zz_aload_n C dX2_newBlock_47 rfl ?_ | refine zz_aload_nN C dX2_newBlock_47 rfl ?_
        refine zz_get C rfl (by first | assumption | exact zz_us | exact zz_lk1 (by assumption) (by assumption) | exact zz_lk3 (hd _ _ (by decide) (by decide) (by decide)) (by assumption) | exact zz_uf (by assumption) (by assumption) | (simp only [zz_up]; simp_all; done)) rfl in_X2 0 rfl q1230 (fun _ h => h) (by first | rfl | assumption) dX2_newBlock_48 ?_
        refine zz_iload C dX2_newBlock_51 rfl ?_
        refine zz_iconst (v := nI 0) C dX2_newBlock_53 (by decide) ?_
        refine zz_callS C zy_X2_at (ct_X2_at nb 0 h5 rfl) rfl q1310 rfl rfl rfl rfl rfl dX2_newBlock_54 ⟨Nat.le_of_ble_eq_true rfl, Nat.le_of_ble_eq_true rfl⟩ (fun v hz hp => ?_)
        obtain ⟨rfl, ez⟩ := hp
        obtain rfl := ez.symm
        refine zz_iload_n C dX2_newBlock_57 rfl ?_
        first | refine zz_iast2 C rfl (by omega) (by omega) dX2_newBlock_58 ?_ | refine zz_iast C (by first | assumption | exact zz_us | exact zz_lk1 (by assumption) (by assumption) | exact zz_lk3 (hd _ _ (by decide) (by decide) (by decide)) (by assumption) | exact zz_uf (by assumption) (by assumption) | (simp only [zz_up]; simp_all; done)) rfl (by omega) (by omega) dX2_newBlock_58 ?_
        first | refine zz_aload_n C dX2_newBlock_59 rfl ?_ | refine zz_aload_nN C dX2_newBlock_59 rfl ?_
        refine zz_get C rfl (by first | assumption | exact zz_us | exact zz_lk1 (by assumption) (by assumption) | exact zz_lk3 (hd _ _ (by decide) (by decide) (by decide)) (by assumption) | exact zz_uf (by assumption) (by assumption) | (simp only [zz_up]; simp_all; done)) rfl in_X2 0 rfl q1230 (fun _ h => h) (by first | rfl | assumption) dX2_newBlock_60 ?_
        refine zz_iload C dX2_newBlock_63 rfl ?_
        refine zz_iconst (v := nI 1) C dX2_newBlock_65 (by decide) ?_
        refine zz_callS C zy_X2_at (ct_X2_at nb 1 h5 rfl) rfl q1310 rfl rfl rfl rfl rfl dX2_newBlock_66 ⟨Nat.le_of_ble_eq_true rfl, Nat.le_of_ble_eq_true rfl⟩ (fun v hz hp => ?_)
        obtain ⟨rfl, ez⟩ := hp
        obtain rfl := ez.symm
        refine zz_iload_n C dX2_newBlock_69 rfl ?_
        first | refine zz_iast2 C rfl (by omega) (by omega) dX2_newBlock_70 ?_ | refine zz_iast C (by first | assumption | exact zz_us | exact zz_lk1 (by assumption) (by assumption) | exact zz_lk3 (hd _ _ (by decide) (by decide) (by decide)) (by assumption) | exact zz_uf (by assumption) (by assumption) | (simp only [zz_up]; simp_all; done)) rfl (by omega) (by omega) dX2_newBlock_70 ?_
        first | refine zz_aload_n C dX2_newBlock_71 rfl ?_ | refine zz_aload_nN C dX2_newBlock_71 rfl ?_
        refine zz_get C rfl (by first | assumption | exact zz_us | exact zz_lk1 (by assumption) (by assumption) | exact zz_lk3 (hd _ _ (by decide) (by decide) (by decide)) (by assumption) | exact zz_uf (by assumption) (by assumption) | (simp only [zz_up]; simp_all; done)) rfl in_X2 0 rfl q1230 (fun _ h => h) (by first | rfl | assumption) dX2_newBlock_72 ?_
        refine zz_iload C dX2_newBlock_75 rfl ?_
        refine zz_iconst (v := nI 2) C dX2_newBlock_77 (by decide) ?_
        refine zz_callS C zy_X2_at (ct_X2_at nb 2 h5 rfl) rfl q1310 rfl rfl rfl rfl rfl dX2_newBlock_78 ⟨Nat.le_of_ble_eq_true rfl, Nat.le_of_ble_eq_true rfl⟩ (fun v hz hp => ?_)
        obtain ⟨rfl, ez⟩ := hp
        obtain rfl := ez.symm
        refine zz_iload_n C dX2_newBlock_81 rfl ?_
        first | refine zz_iast2 C rfl (by omega) (by omega) dX2_newBlock_82 ?_ | refine zz_iast C (by first | assumption | exact zz_us | exact zz_lk1 (by assumption) (by assumption) | exact zz_lk3 (hd _ _ (by decide) (by decide) (by decide)) (by assumption) | exact zz_uf (by assumption) (by assumption) | (simp only [zz_up]; simp_all; done)) rfl (by omega) (by omega) dX2_newBlock_82 ?_
        first | refine zz_aload_n C dX2_newBlock_83 rfl ?_ | refine zz_aload_nN C dX2_newBlock_83 rfl ?_
        refine zz_get C rfl (by first | assumption | exact zz_us | exact zz_lk1 (by assumption) (by assumption) | exact zz_lk3 (hd _ _ (by decide) (by decide) (by decide)) (by assumption) | exact zz_uf (by assumption) (by assumption) | (simp only [zz_up]; simp_all; done)) rfl in_X2 0 rfl q1230 (fun _ h => h) (by first | rfl | assumption) dX2_newBlock_84 ?_
        refine zz_iload C dX2_newBlock_87 rfl ?_
        refine zz_iconst (v := nI 3) C dX2_newBlock_89 (by decide) ?_
        refine zz_callS C zy_X2_at (ct_X2_at nb 3 h5 rfl) rfl q1310 rfl rfl rfl rfl rfl dX2_newBlock_90 ⟨Nat.le_of_ble_eq_true rfl, Nat.le_of_ble_eq_true rfl⟩ (fun v hz hp => ?_)
        obtain ⟨rfl, ez⟩ := hp
        obtain rfl := ez.symm
        refine zz_iload C dX2_newBlock_93 rfl ?_
        first | refine zz_iast2 C rfl (by omega) (by omega) dX2_newBlock_95 ?_ | refine zz_iast C (by first | assumption | exact zz_us | exact zz_lk1 (by assumption) (by assumption) | exact zz_lk3 (hd _ _ (by decide) (by decide) (by decide)) (by assumption) | exact zz_uf (by assumption) (by assumption) | (simp only [zz_up]; simp_all; done)) rfl (by omega) (by omega) dX2_newBlock_95 ?_
        first | refine zz_aload_n C dX2_newBlock_96 rfl ?_ | refine zz_aload_nN C dX2_newBlock_96 rfl ?_
        refine zz_get C rfl (by first | assumption | exact zz_us | exact zz_lk1 (by assumption) (by assumption) | exact zz_lk3 (hd _ _ (by decide) (by decide) (by decide)) (by assumption) | exact zz_uf (by assumption) (by assumption) | (simp only [zz_up]; simp_all; done)) rfl in_X2 0 rfl q1230 (fun _ h => h) (by first | rfl | assumption) dX2_newBlock_97 ?_
        refine zz_iload C dX2_newBlock_100 rfl ?_
        refine zz_bipush (v := nI 7) C dX2_newBlock_102 (by decide) ?_
        refine zz_callS C zy_X2_at (ct_X2_at nb 7 h5 rfl) rfl q1310 rfl rfl rfl rfl rfl dX2_newBlock_104 ⟨Nat.le_of_ble_eq_true rfl, Nat.le_of_ble_eq_true rfl⟩ (fun v hz hp => ?_)
        obtain ⟨rfl, ez⟩ := hp
        obtain rfl := ez.symm
        refine zz_bipush (v := (-6)) C dX2_newBlock_107 (by decide) ?_
        first | refine zz_iast2 C rfl (by omega) (by omega) dX2_newBlock_109 ?_ | refine zz_iast C (by first | assumption | exact zz_us | exact zz_lk1 (by assumption) (by assumption) | exact zz_lk3 (hd _ _ (by decide) (by decide) (by decide)) (by assumption) | exact zz_uf (by assumption) (by assumption) | (simp only [zz_up]; simp_all; done)) rfl (by omega) (by omega) dX2_newBlock_109 ?_
        first | refine zz_aload_n C dX2_newBlock_110 rfl ?_ | refine zz_aload_nN C dX2_newBlock_110 rfl ?_
        refine zz_get C rfl (by first | assumption | exact zz_us | exact zz_lk1 (by assumption) (by assumption) | exact zz_lk3 (hd _ _ (by decide) (by decide) (by decide)) (by assumption) | exact zz_uf (by assumption) (by assumption) | (simp only [zz_up]; simp_all; done)) rfl in_X2 0 rfl q1230 (fun _ h => h) (by first | rfl | assumption) dX2_newBlock_111 ?_
        refine zz_iload C dX2_newBlock_114 rfl ?_
        refine zz_bipush (v := nI 8) C dX2_newBlock_116 (by decide) ?_
        refine zz_callS C zy_X2_at (ct_X2_at nb 8 h5 rfl) rfl q1310 rfl rfl rfl rfl rfl dX2_newBlock_118 ⟨Nat.le_of_ble_eq_true rfl, Nat.le_of_ble_eq_true rfl⟩ (fun v hz hp => ?_)
        obtain ⟨rfl, ez⟩ := hp
        obtain rfl := ez.symm
        refine zz_bipush (v := (-6)) C dX2_newBlock_121 (by decide) ?_
        first | refine zz_iast2 C rfl (by omega) (by omega) dX2_newBlock_123 ?_ | refine zz_iast C (by first | assumption | exact zz_us | exact zz_lk1 (by assumption) (by assumption) | exact zz_lk3 (hd _ _ (by decide) (by decide) (by decide)) (by assumption) | exact zz_uf (by assumption) (by assumption) | (simp only [zz_up]; simp_all; done)) rfl (by omega) (by omega) dX2_newBlock_123 ?_
        first | refine zz_aload_n C dX2_newBlock_124 rfl ?_ | refine zz_aload_nN C dX2_newBlock_124 rfl ?_
        refine zz_get C rfl (by first | assumption | exact zz_us | exact zz_lk1 (by assumption) (by assumption) | exact zz_lk3 (hd _ _ (by decide) (by decide) (by decide)) (by assumption) | exact zz_uf (by assumption) (by assumption) | (simp only [zz_up]; simp_all; done)) rfl in_X2 0 rfl q1230 (fun _ h => h) (by first | rfl | assumption) dX2_newBlock_125 ?_
        refine zz_iload C dX2_newBlock_128 rfl ?_
        refine zz_bipush (v := nI 9) C dX2_newBlock_130 (by decide) ?_
        refine zz_callS C zy_X2_at (ct_X2_at nb 9 h5 rfl) rfl q1310 rfl rfl rfl rfl rfl dX2_newBlock_132 ⟨Nat.le_of_ble_eq_true rfl, Nat.le_of_ble_eq_true rfl⟩ (fun v hz hp => ?_)
        obtain ⟨rfl, ez⟩ := hp
        obtain rfl := ez.symm
        refine zz_bipush (v := (-6)) C dX2_newBlock_135 (by decide) ?_
        first | refine zz_iast2 C rfl (by omega) (by omega) dX2_newBlock_137 ?_ | refine zz_iast C (by first | assumption | exact zz_us | exact zz_lk1 (by assumption) (by assumption) | exact zz_lk3 (hd _ _ (by decide) (by decide) (by decide)) (by assumption) | exact zz_uf (by assumption) (by assumption) | (simp only [zz_up]; simp_all; done)) rfl (by omega) (by omega) dX2_newBlock_137 ?_
        refine zz_iload C dX2_newBlock_138 rfl ?_
        refine zz_iret C dX2_newBlock_140 rfl rfl ?_
        exact ⟨by rw [h5], rfl⟩
      · have hi2 : i < 10 := Nat.not_le.mp (fun q => c25 (nI_le (a := 10) q (by omega)))
        first | refine zz_aload_n C dX2_newBlock_28 rfl ?_ | refine zz_aload_nN C dX2_newBlock_28 rfl ?_
        refine zz_get C rfl (by first | assumption | exact zz_us | exact zz_lk1 (by assumption) (by assumption) | exact zz_lk3 (hd _ _ (by decide) (by decide) (by decide)) (by assumption) | exact zz_uf (by assumption) (by assumption) | (simp only [zz_up]; simp_all; done)) rfl in_X2 0 rfl q1230 (fun _ h => h) (by first | rfl | assumption) dX2_newBlock_29 ?_
        refine zz_iload C dX2_newBlock_32 rfl ?_
        refine zz_iload C dX2_newBlock_34 rfl ?_
        refine zz_callS C zy_X2_at (ct_X2_at nb i h5 rfl) rfl q1310 rfl rfl rfl rfl rfl dX2_newBlock_36 ⟨Nat.le_of_ble_eq_true rfl, Nat.le_of_ble_eq_true rfl⟩ (fun v hz hp => ?_)
        obtain ⟨rfl, ez⟩ := hp
        obtain rfl := ez.symm
        refine zz_iconst (v := 0) C dX2_newBlock_39 (by decide) ?_
        first | refine zz_iast2 C rfl (by omega) (by omega) dX2_newBlock_40 ?_ | refine zz_iast C (by first | assumption | exact zz_us | exact zz_lk1 (by assumption) (by assumption) | exact zz_lk3 (hd _ _ (by decide) (by decide) (by decide)) (by assumption) | exact zz_uf (by assumption) (by assumption) | (simp only [zz_up]; simp_all; done)) rfl (by omega) (by omega) dX2_newBlock_40 ?_
        refine zz_iinc C dX2_newBlock_41 rfl (by first | exact nI_1 _ | exact (rfl : _ + Int32.ofInt 1 = _ + 1)) (by decide) ?_
        refine zz_goto (tgt := 21) C dX2_newBlock_44 (by decide) ?_
        exact zz_loc2 (ih (i + 1) (by omega) (by omega)) ⟨rfl, rfl, rfl, rfl, rfl, rfl, rfl, trivial⟩
  exact zz_loc2 (L21 11 0 (by omega) (by omega)) ⟨rfl, rfl, rfl, rfl, rfl, rfl, rfl, trivial⟩

theorem ct_X2_part {l : Launch} {D : va_G} {b0 : Nat} {h : zz_H} {x s0 : Nat} {a : Nat → Int32} {v0 v1 v2 : Int32} (nb : Nat) (h5 : a 5 = nI nb) (hnb : nb < 24) (b : Nat) (hv0 : v0 = nI b) (hb : b < 24) (k : Nat) (hv1 : v1 = nI k) (hk : k < 3) (hM : tw_M D h x s0 a) : zz_Ct l D b0 yX2_part cX2_part 5 (none) 2 47 0 0 [.ref x, .int v0, .int v1, .int v2] h (fun v h' => v = none ∧ h' = (zz_up h s0 (.inl (D.1 100, 324, .inl (qa_part a nb b k v2))))) := by
  refine zz_Ct.of zy_X2_part.1 rfl ?_
  intro p e s m below meth c C
  subst hv0 hv1
  have hM0 := hM
  obtain ⟨fs, hx, hf0, hs⟩ := hM0
  first | refine zz_aload_n C dX2_part_0 rfl ?_ | refine zz_aload_nN C dX2_part_0 rfl ?_
  first | refine zz_aload_n C dX2_part_1 rfl ?_ | refine zz_aload_nN C dX2_part_1 rfl ?_
  refine zz_get C rfl (by first | assumption | exact zz_us | exact zz_lk1 (by assumption) (by assumption) | exact zz_lk3 (hd _ _ (by decide) (by decide) (by decide)) (by assumption) | exact zz_uf (by assumption) (by assumption) | (simp only [zz_up]; simp_all; done)) rfl in_X2 0 rfl q1230 (fun _ h => h) (by first | rfl | assumption) dX2_part_2 ?_
  refine zz_iload_n C dX2_part_5 rfl ?_
  refine zz_iconst (v := nI 0) C dX2_part_6 (by decide) ?_
  refine zz_callS C zy_X2_at (ct_X2_at _ _ rfl rfl) rfl q1310 rfl rfl rfl rfl rfl dX2_part_7 ⟨Nat.le_of_ble_eq_true rfl, Nat.le_of_ble_eq_true rfl⟩ (fun v hz hp => ?_)
  obtain ⟨rfl, ez⟩ := hp
  obtain rfl := ez.symm
  refine zz_iald C (by first | assumption | exact zz_us | exact zz_lk1 (by assumption) (by assumption) | exact zz_lk3 (hd _ _ (by decide) (by decide) (by decide)) (by assumption) | exact zz_uf (by assumption) (by assumption) | (simp only [zz_up]; simp_all; done)) rfl (by omega) (by omega) dX2_part_10 ?_
  first | refine zz_aload_n C dX2_part_11 rfl ?_ | refine zz_aload_nN C dX2_part_11 rfl ?_
  refine zz_get C rfl (by first | assumption | exact zz_us | exact zz_lk1 (by assumption) (by assumption) | exact zz_lk3 (hd _ _ (by decide) (by decide) (by decide)) (by assumption) | exact zz_uf (by assumption) (by assumption) | (simp only [zz_up]; simp_all; done)) rfl in_X2 0 rfl q1230 (fun _ h => h) (by first | rfl | assumption) dX2_part_12 ?_
  refine zz_iload_n C dX2_part_15 rfl ?_
  refine zz_iconst (v := nI 1) C dX2_part_16 (by decide) ?_
  refine zz_callS C zy_X2_at (ct_X2_at _ _ rfl rfl) rfl q1310 rfl rfl rfl rfl rfl dX2_part_17 ⟨Nat.le_of_ble_eq_true rfl, Nat.le_of_ble_eq_true rfl⟩ (fun v hz hp => ?_)
  obtain ⟨rfl, ez⟩ := hp
  obtain rfl := ez.symm
  refine zz_iald C (by first | assumption | exact zz_us | exact zz_lk1 (by assumption) (by assumption) | exact zz_lk3 (hd _ _ (by decide) (by decide) (by decide)) (by assumption) | exact zz_uf (by assumption) (by assumption) | (simp only [zz_up]; simp_all; done)) rfl (by omega) (by omega) dX2_part_20 ?_
  first | refine zz_aload_n C dX2_part_21 rfl ?_ | refine zz_aload_nN C dX2_part_21 rfl ?_
  refine zz_get C rfl (by first | assumption | exact zz_us | exact zz_lk1 (by assumption) (by assumption) | exact zz_lk3 (hd _ _ (by decide) (by decide) (by decide)) (by assumption) | exact zz_uf (by assumption) (by assumption) | (simp only [zz_up]; simp_all; done)) rfl in_X2 0 rfl q1230 (fun _ h => h) (by first | rfl | assumption) dX2_part_22 ?_
  refine zz_iload_n C dX2_part_25 rfl ?_
  refine zz_iconst (v := nI 2) C dX2_part_26 (by decide) ?_
  refine zz_callS C zy_X2_at (ct_X2_at _ _ rfl rfl) rfl q1310 rfl rfl rfl rfl rfl dX2_part_27 ⟨Nat.le_of_ble_eq_true rfl, Nat.le_of_ble_eq_true rfl⟩ (fun v hz hp => ?_)
  obtain ⟨rfl, ez⟩ := hp
  obtain rfl := ez.symm
  refine zz_iald C (by first | assumption | exact zz_us | exact zz_lk1 (by assumption) (by assumption) | exact zz_lk3 (hd _ _ (by decide) (by decide) (by decide)) (by assumption) | exact zz_uf (by assumption) (by assumption) | (simp only [zz_up]; simp_all; done)) rfl (by omega) (by omega) dX2_part_30 ?_
  first | refine zz_aload_n C dX2_part_31 rfl ?_ | refine zz_aload_nN C dX2_part_31 rfl ?_
  refine zz_get C rfl (by first | assumption | exact zz_us | exact zz_lk1 (by assumption) (by assumption) | exact zz_lk3 (hd _ _ (by decide) (by decide) (by decide)) (by assumption) | exact zz_uf (by assumption) (by assumption) | (simp only [zz_up]; simp_all; done)) rfl in_X2 0 rfl q1230 (fun _ h => h) (by first | rfl | assumption) dX2_part_32 ?_
  refine zz_iload_n C dX2_part_35 rfl ?_
  refine zz_iconst (v := nI 3) C dX2_part_36 (by decide) ?_
  refine zz_callS C zy_X2_at (ct_X2_at _ _ rfl rfl) rfl q1310 rfl rfl rfl rfl rfl dX2_part_37 ⟨Nat.le_of_ble_eq_true rfl, Nat.le_of_ble_eq_true rfl⟩ (fun v hz hp => ?_)
  obtain ⟨rfl, ez⟩ := hp
  obtain rfl := ez.symm
  refine zz_iald C (by first | assumption | exact zz_us | exact zz_lk1 (by assumption) (by assumption) | exact zz_lk3 (hd _ _ (by decide) (by decide) (by decide)) (by assumption) | exact zz_uf (by assumption) (by assumption) | (simp only [zz_up]; simp_all; done)) rfl (by omega) (by omega) dX2_part_40 ?_
  refine zz_callV C zy_X2_newBlock (ct_X2_newBlock nb h5 hnb hM) rfl q1306 (by first | assumption | exact zz_us | exact zz_lk1 (by assumption) (by assumption) | exact zz_lk3 (hd _ _ (by decide) (by decide) (by decide)) (by assumption) | exact zz_uf (by assumption) (by assumption) | (simp only [zz_up]; simp_all; done)) rfl rfl rfl rfl rfl rfl dX2_part_41 ⟨Nat.le_of_ble_eq_true rfl, Nat.le_of_ble_eq_true rfl⟩ (fun v hz hp => ?_)
  obtain ⟨rfl, ez⟩ := hp
  obtain rfl := ez.symm
  refine zz_istore C dX2_part_44 (by decide) ?_
  first | refine zz_aload_n C dX2_part_46 rfl ?_ | refine zz_aload_nN C dX2_part_46 rfl ?_
  refine zz_get C rfl (by first | assumption | exact zz_us | exact zz_lk1 (by assumption) (by assumption) | exact zz_lk3 (hd _ _ (by decide) (by decide) (by decide)) (by assumption) | exact zz_uf (by assumption) (by assumption) | (simp only [zz_up]; simp_all; done)) rfl in_X2 0 rfl q1230 (fun _ h => h) (by first | rfl | assumption) dX2_part_47 ?_
  refine zz_iload C dX2_part_50 rfl ?_
  refine zz_iload_n C dX2_part_52 rfl ?_
  refine zz_callS C zy_X2_at (ct_X2_at nb k rfl rfl) rfl q1310 rfl rfl rfl rfl rfl dX2_part_53 ⟨Nat.le_of_ble_eq_true rfl, Nat.le_of_ble_eq_true rfl⟩ (fun v hz hp => ?_)
  obtain ⟨rfl, ez⟩ := hp
  obtain rfl := ez.symm
  refine zz_iload_n C dX2_part_56 rfl ?_
  first | refine zz_iast2 C rfl (by omega) (by omega) dX2_part_57 ?_ | refine zz_iast C (by first | assumption | exact zz_us | exact zz_lk1 (by assumption) (by assumption) | exact zz_lk3 (hd _ _ (by decide) (by decide) (by decide)) (by assumption) | exact zz_uf (by assumption) (by assumption) | (simp only [zz_up]; simp_all; done)) rfl (by omega) (by omega) dX2_part_57 ?_
  first | refine zz_aload_n C dX2_part_58 rfl ?_ | refine zz_aload_nN C dX2_part_58 rfl ?_
  refine zz_get C rfl (by first | assumption | exact zz_us | exact zz_lk1 (by assumption) (by assumption) | exact zz_lk3 (hd _ _ (by decide) (by decide) (by decide)) (by assumption) | exact zz_uf (by assumption) (by assumption) | (simp only [zz_up]; simp_all; done)) rfl in_X2 0 rfl q1230 (fun _ h => h) (by first | rfl | assumption) dX2_part_59 ?_
  refine zz_iload C dX2_part_62 rfl ?_
  refine zz_iconst (v := nI 5) C dX2_part_64 (by decide) ?_
  refine zz_callS C zy_X2_at (ct_X2_at nb 5 rfl rfl) rfl q1310 rfl rfl rfl rfl rfl dX2_part_65 ⟨Nat.le_of_ble_eq_true rfl, Nat.le_of_ble_eq_true rfl⟩ (fun v hz hp => ?_)
  obtain ⟨rfl, ez⟩ := hp
  obtain rfl := ez.symm
  first | refine zz_aload_n C dX2_part_68 rfl ?_ | refine zz_aload_nN C dX2_part_68 rfl ?_
  refine zz_get C rfl (by first | assumption | exact zz_us | exact zz_lk1 (by assumption) (by assumption) | exact zz_lk3 (hd _ _ (by decide) (by decide) (by decide)) (by assumption) | exact zz_uf (by assumption) (by assumption) | (simp only [zz_up]; simp_all; done)) rfl in_X2 0 rfl q1230 (fun _ h => h) (by first | rfl | assumption) dX2_part_69 ?_
  refine zz_iload_n C dX2_part_72 rfl ?_
  refine zz_iconst (v := nI 5) C dX2_part_73 (by decide) ?_
  refine zz_callS C zy_X2_at (ct_X2_at b 5 rfl rfl) rfl q1310 rfl rfl rfl rfl rfl dX2_part_74 ⟨Nat.le_of_ble_eq_true rfl, Nat.le_of_ble_eq_true rfl⟩ (fun v hz hp => ?_)
  obtain ⟨rfl, ez⟩ := hp
  obtain rfl := ez.symm
  refine zz_iald C (by first | assumption | exact zz_us | exact zz_lk1 (by assumption) (by assumption) | exact zz_lk3 (hd _ _ (by decide) (by decide) (by decide)) (by assumption) | exact zz_uf (by assumption) (by assumption) | (simp only [zz_up]; simp_all; done)) rfl (by omega) (by omega) dX2_part_77 ?_
  first | refine zz_iast2 C rfl (by omega) (by omega) dX2_part_78 ?_ | refine zz_iast C (by first | assumption | exact zz_us | exact zz_lk1 (by assumption) (by assumption) | exact zz_lk3 (hd _ _ (by decide) (by decide) (by decide)) (by assumption) | exact zz_uf (by assumption) (by assumption) | (simp only [zz_up]; simp_all; done)) rfl (by omega) (by omega) dX2_part_78 ?_
  first | refine zz_aload_n C dX2_part_79 rfl ?_ | refine zz_aload_nN C dX2_part_79 rfl ?_
  refine zz_get C rfl (by first | assumption | exact zz_us | exact zz_lk1 (by assumption) (by assumption) | exact zz_lk3 (hd _ _ (by decide) (by decide) (by decide)) (by assumption) | exact zz_uf (by assumption) (by assumption) | (simp only [zz_up]; simp_all; done)) rfl in_X2 0 rfl q1230 (fun _ h => h) (by first | rfl | assumption) dX2_part_80 ?_
  refine zz_iload C dX2_part_83 rfl ?_
  refine zz_bipush (v := nI 6) C dX2_part_85 (by decide) ?_
  refine zz_callS C zy_X2_at (ct_X2_at nb 6 rfl rfl) rfl q1310 rfl rfl rfl rfl rfl dX2_part_87 ⟨Nat.le_of_ble_eq_true rfl, Nat.le_of_ble_eq_true rfl⟩ (fun v hz hp => ?_)
  obtain ⟨rfl, ez⟩ := hp
  obtain rfl := ez.symm
  first | refine zz_aload_n C dX2_part_90 rfl ?_ | refine zz_aload_nN C dX2_part_90 rfl ?_
  refine zz_get C rfl (by first | assumption | exact zz_us | exact zz_lk1 (by assumption) (by assumption) | exact zz_lk3 (hd _ _ (by decide) (by decide) (by decide)) (by assumption) | exact zz_uf (by assumption) (by assumption) | (simp only [zz_up]; simp_all; done)) rfl in_X2 0 rfl q1230 (fun _ h => h) (by first | rfl | assumption) dX2_part_91 ?_
  refine zz_iload_n C dX2_part_94 rfl ?_
  refine zz_bipush (v := nI 6) C dX2_part_95 (by decide) ?_
  refine zz_callS C zy_X2_at (ct_X2_at b 6 rfl rfl) rfl q1310 rfl rfl rfl rfl rfl dX2_part_97 ⟨Nat.le_of_ble_eq_true rfl, Nat.le_of_ble_eq_true rfl⟩ (fun v hz hp => ?_)
  obtain ⟨rfl, ez⟩ := hp
  obtain rfl := ez.symm
  refine zz_iald C (by first | assumption | exact zz_us | exact zz_lk1 (by assumption) (by assumption) | exact zz_lk3 (hd _ _ (by decide) (by decide) (by decide)) (by assumption) | exact zz_uf (by assumption) (by assumption) | (simp only [zz_up]; simp_all; done)) rfl (by omega) (by omega) dX2_part_100 ?_
  first | refine zz_iast2 C rfl (by omega) (by omega) dX2_part_101 ?_ | refine zz_iast C (by first | assumption | exact zz_us | exact zz_lk1 (by assumption) (by assumption) | exact zz_lk3 (hd _ _ (by decide) (by decide) (by decide)) (by assumption) | exact zz_uf (by assumption) (by assumption) | (simp only [zz_up]; simp_all; done)) rfl (by omega) (by omega) dX2_part_101 ?_
  first | refine zz_aload_n C dX2_part_102 rfl ?_ | refine zz_aload_nN C dX2_part_102 rfl ?_
  refine zz_get C rfl (by first | assumption | exact zz_us | exact zz_lk1 (by assumption) (by assumption) | exact zz_lk3 (hd _ _ (by decide) (by decide) (by decide)) (by assumption) | exact zz_uf (by assumption) (by assumption) | (simp only [zz_up]; simp_all; done)) rfl in_X2 0 rfl q1230 (fun _ h => h) (by first | rfl | assumption) dX2_part_103 ?_
  refine zz_iload C dX2_part_106 rfl ?_
  refine zz_bipush (v := nI 9) C dX2_part_108 (by decide) ?_
  refine zz_callS C zy_X2_at (ct_X2_at nb 9 rfl rfl) rfl q1310 rfl rfl rfl rfl rfl dX2_part_110 ⟨Nat.le_of_ble_eq_true rfl, Nat.le_of_ble_eq_true rfl⟩ (fun v hz hp => ?_)
  obtain ⟨rfl, ez⟩ := hp
  obtain rfl := ez.symm
  refine zz_iload_n C dX2_part_113 rfl ?_
  first | refine zz_iast2 C rfl (by omega) (by omega) dX2_part_114 ?_ | refine zz_iast C (by first | assumption | exact zz_us | exact zz_lk1 (by assumption) (by assumption) | exact zz_lk3 (hd _ _ (by decide) (by decide) (by decide)) (by assumption) | exact zz_uf (by assumption) (by assumption) | (simp only [zz_up]; simp_all; done)) rfl (by omega) (by omega) dX2_part_114 ?_
  first | refine zz_aload_n C dX2_part_115 rfl ?_ | refine zz_aload_nN C dX2_part_115 rfl ?_
  refine zz_get C rfl (by first | assumption | exact zz_us | exact zz_lk1 (by assumption) (by assumption) | exact zz_lk3 (hd _ _ (by decide) (by decide) (by decide)) (by assumption) | exact zz_uf (by assumption) (by assumption) | (simp only [zz_up]; simp_all; done)) rfl in_X2 0 rfl q1230 (fun _ h => h) (by first | rfl | assumption) dX2_part_116 ?_
  refine zz_bipush (v := nI 9) C dX2_part_119 (by decide) ?_
  refine zz_dup2 C dX2_part_121 rfl rfl ?_
  refine zz_iald C (by first | assumption | exact zz_us | exact zz_lk1 (by assumption) (by assumption) | exact zz_lk3 (hd _ _ (by decide) (by decide) (by decide)) (by assumption) | exact zz_uf (by assumption) (by assumption) | (simp only [zz_up]; simp_all; done)) rfl (by omega) (by omega) dX2_part_122 ?_
  first | refine zz_aload_n C dX2_part_123 rfl ?_ | refine zz_aload_nN C dX2_part_123 rfl ?_
  refine zz_iload C dX2_part_124 rfl ?_
  refine zz_callV C zy_X2_weight (ct_X2_weight (a := qa_part0 a nb b k v2) nb rfl hnb ⟨fs, zz_lk1 hx hs, hf0, zz_us⟩) rfl q1313 (by first | assumption | exact zz_us | exact zz_lk1 (by assumption) (by assumption) | exact zz_lk3 (hd _ _ (by decide) (by decide) (by decide)) (by assumption) | exact zz_uf (by assumption) (by assumption) | (simp only [zz_up]; simp_all; done)) rfl rfl rfl rfl rfl rfl dX2_part_126 ⟨Nat.le_of_ble_eq_true rfl, Nat.le_of_ble_eq_true rfl⟩ (fun v hz hp => ?_)
  obtain ⟨rfl, ez⟩ := hp
  obtain rfl := ez.symm
  refine zz_isub C dX2_part_129 ?_
  first | refine zz_iast2 C rfl (by omega) (by omega) dX2_part_130 ?_ | refine zz_iast C (by first | assumption | exact zz_us | exact zz_lk1 (by assumption) (by assumption) | exact zz_lk3 (hd _ _ (by decide) (by decide) (by decide)) (by assumption) | exact zz_uf (by assumption) (by assumption) | (simp only [zz_up]; simp_all; done)) rfl (by omega) (by omega) dX2_part_130 ?_
  refine zz_vret C dX2_part_131 rfl rfl ?_
  exact ⟨rfl, rfl⟩

theorem ct_X2_delivers {l : Launch} {D : va_G} {b0 : Nat} {h : zz_H} {x s0 : Nat} {a : Nat → Int32} {v0 : Int32} (b : Nat) (hv0 : v0 = nI b) (hb : b < 24) (hor : a (12 + 10 * b + 7) = -6 ∨ ∃ o : Nat, o < 10 ∧ a (12 + 10 * b + 7) = nI o) (hM : tw_M D h x s0 a) : zz_Ct l D b0 yX2_delivers cX2_delivers 4 (some .int) 2 42 0 0 [.ref x, .int v0] h (fun v h' => v = some (.int (qa_inv a b)) ∧ h' = zz_up h s0 (.inl (D.1 100, 324, .inl (qa_del a b)))) := by
  refine zz_Ct.of zy_X2_delivers.1 rfl ?_
  intro p e s m below meth c C
  subst hv0
  have hM0 := hM
  obtain ⟨fs, hx, hf0, hs⟩ := hM0
  first | refine zz_aload_n C dX2_delivers_0 rfl ?_ | refine zz_aload_nN C dX2_delivers_0 rfl ?_
  refine zz_get C rfl (by first | assumption | exact zz_us | exact zz_lk1 (by assumption) (by assumption) | exact zz_lk3 (hd _ _ (by decide) (by decide) (by decide)) (by assumption) | exact zz_uf (by assumption) (by assumption) | (simp only [zz_up]; simp_all; done)) rfl in_X2 0 rfl q1230 (fun _ h => h) (by first | rfl | assumption) dX2_delivers_1 ?_
  refine zz_iload_n C dX2_delivers_4 rfl ?_
  refine zz_bipush (v := nI 7) C dX2_delivers_5 (by decide) ?_
  refine zz_callS C zy_X2_at (ct_X2_at _ _ rfl rfl) rfl q1310 rfl rfl rfl rfl rfl dX2_delivers_7 ⟨Nat.le_of_ble_eq_true rfl, Nat.le_of_ble_eq_true rfl⟩ (fun v hz hp => ?_)
  obtain ⟨rfl, ez⟩ := hp
  obtain rfl := ez.symm
  refine zz_iald C (by first | assumption | exact zz_us | exact zz_lk1 (by assumption) (by assumption) | exact zz_lk3 (hd _ _ (by decide) (by decide) (by decide)) (by assumption) | exact zz_uf (by assumption) (by assumption) | (simp only [zz_up]; simp_all; done)) rfl (by omega) (by omega) dX2_delivers_10 ?_
  refine zz_istore_n C dX2_delivers_11 (by decide) ?_
  refine zz_iload_n C dX2_delivers_12 rfl ?_
  refine zz_bipush (v := (-6)) C dX2_delivers_13 (by decide) ?_
  refine zz_icmp_ne (tgt := 22) C dX2_delivers_15 (by decide) (fun c15 => ?_) (fun c15 => ?_)
  · first | refine zz_aload_n C dX2_delivers_22 rfl ?_ | refine zz_aload_nN C dX2_delivers_22 rfl ?_
    refine zz_get C rfl (by first | assumption | exact zz_us | exact zz_lk1 (by assumption) (by assumption) | exact zz_lk3 (hd _ _ (by decide) (by decide) (by decide)) (by assumption) | exact zz_uf (by assumption) (by assumption) | (simp only [zz_up]; simp_all; done)) rfl in_X2 0 rfl q1230 (fun _ h => h) (by first | rfl | assumption) dX2_delivers_23 ?_
    refine zz_iconst (v := nI 1) C dX2_delivers_26 (by decide) ?_
    refine zz_iald C (by first | assumption | exact zz_us | exact zz_lk1 (by assumption) (by assumption) | exact zz_lk3 (hd _ _ (by decide) (by decide) (by decide)) (by assumption) | exact zz_uf (by assumption) (by assumption) | (simp only [zz_up]; simp_all; done)) rfl (by omega) (by omega) dX2_delivers_27 ?_
    first | refine zz_aload_n C dX2_delivers_28 rfl ?_ | refine zz_aload_nN C dX2_delivers_28 rfl ?_
    refine zz_iload_n C dX2_delivers_29 rfl ?_
    refine zz_callV C zy_X2_weight (ct_X2_weight b rfl hb hM) rfl q1313 (by first | assumption | exact zz_us | exact zz_lk1 (by assumption) (by assumption) | exact zz_lk3 (hd _ _ (by decide) (by decide) (by decide)) (by assumption) | exact zz_uf (by assumption) (by assumption) | (simp only [zz_up]; simp_all; done)) rfl rfl rfl rfl rfl rfl dX2_delivers_30 ⟨Nat.le_of_ble_eq_true rfl, Nat.le_of_ble_eq_true rfl⟩ (fun v hz hp => ?_)
    obtain ⟨rfl, ez⟩ := hp
    obtain rfl := ez.symm
    refine zz_bipush (v := 99) C dX2_delivers_33 (by decide) ?_
    refine zz_iadd C dX2_delivers_35 ?_
    refine zz_bipush (v := 100) C dX2_delivers_36 (by decide) ?_
    refine zz_idiv C dX2_delivers_38 (by decide) ?_
    refine zz_imul C dX2_delivers_39 ?_
    refine zz_istore_n C dX2_delivers_40 (by decide) ?_
    first | refine zz_aload_n C dX2_delivers_41 rfl ?_ | refine zz_aload_nN C dX2_delivers_41 rfl ?_
    refine zz_get C rfl (by first | assumption | exact zz_us | exact zz_lk1 (by assumption) (by assumption) | exact zz_lk3 (hd _ _ (by decide) (by decide) (by decide)) (by assumption) | exact zz_uf (by assumption) (by assumption) | (simp only [zz_up]; simp_all; done)) rfl in_X2 0 rfl q1230 (fun _ h => h) (by first | rfl | assumption) dX2_delivers_42 ?_
    refine zz_iload_n C dX2_delivers_45 rfl ?_
    refine zz_iconst (v := nI 4) C dX2_delivers_46 (by decide) ?_
    refine zz_callS C zy_X2_at (ct_X2_at _ _ rfl rfl) rfl q1310 rfl rfl rfl rfl rfl dX2_delivers_47 ⟨Nat.le_of_ble_eq_true rfl, Nat.le_of_ble_eq_true rfl⟩ (fun v hz hp => ?_)
    obtain ⟨rfl, ez⟩ := hp
    obtain rfl := ez.symm
    refine zz_iconst (v := 3) C dX2_delivers_50 (by decide) ?_
    first | refine zz_iast2 C rfl (by omega) (by omega) dX2_delivers_51 ?_ | refine zz_iast C (by first | assumption | exact zz_us | exact zz_lk1 (by assumption) (by assumption) | exact zz_lk3 (hd _ _ (by decide) (by decide) (by decide)) (by assumption) | exact zz_uf (by assumption) (by assumption) | (simp only [zz_up]; simp_all; done)) rfl (by omega) (by omega) dX2_delivers_51 ?_
    first | refine zz_aload_n C dX2_delivers_52 rfl ?_ | refine zz_aload_nN C dX2_delivers_52 rfl ?_
    refine zz_get C rfl (by first | assumption | exact zz_us | exact zz_lk1 (by assumption) (by assumption) | exact zz_lk3 (hd _ _ (by decide) (by decide) (by decide)) (by assumption) | exact zz_uf (by assumption) (by assumption) | (simp only [zz_up]; simp_all; done)) rfl in_X2 0 rfl q1230 (fun _ h => h) (by first | rfl | assumption) dX2_delivers_53 ?_
    refine zz_iload_n C dX2_delivers_56 rfl ?_
    refine zz_bipush (v := nI 8) C dX2_delivers_57 (by decide) ?_
    refine zz_callS C zy_X2_at (ct_X2_at _ _ rfl rfl) rfl q1310 rfl rfl rfl rfl rfl dX2_delivers_59 ⟨Nat.le_of_ble_eq_true rfl, Nat.le_of_ble_eq_true rfl⟩ (fun v hz hp => ?_)
    obtain ⟨rfl, ez⟩ := hp
    obtain rfl := ez.symm
    refine zz_bipush (v := (-6)) C dX2_delivers_62 (by decide) ?_
    first | refine zz_iast2 C rfl (by omega) (by omega) dX2_delivers_64 ?_ | refine zz_iast C (by first | assumption | exact zz_us | exact zz_lk1 (by assumption) (by assumption) | exact zz_lk3 (hd _ _ (by decide) (by decide) (by decide)) (by assumption) | exact zz_uf (by assumption) (by assumption) | (simp only [zz_up]; simp_all; done)) rfl (by omega) (by omega) dX2_delivers_64 ?_
    first | refine zz_aload_n C dX2_delivers_65 rfl ?_ | refine zz_aload_nN C dX2_delivers_65 rfl ?_
    refine zz_get C rfl (by first | assumption | exact zz_us | exact zz_lk1 (by assumption) (by assumption) | exact zz_lk3 (hd _ _ (by decide) (by decide) (by decide)) (by assumption) | exact zz_uf (by assumption) (by assumption) | (simp only [zz_up]; simp_all; done)) rfl in_X2 0 rfl q1230 (fun _ h => h) (by first | rfl | assumption) dX2_delivers_66 ?_
    refine zz_bipush (v := nI 10) C dX2_delivers_69 (by decide) ?_
    refine zz_dup2 C dX2_delivers_71 rfl rfl ?_
    refine zz_iald C (by first | assumption | exact zz_us | exact zz_lk1 (by assumption) (by assumption) | exact zz_lk3 (hd _ _ (by decide) (by decide) (by decide)) (by assumption) | exact zz_uf (by assumption) (by assumption) | (simp only [zz_up]; simp_all; done)) rfl (by omega) (by omega) dX2_delivers_72 ?_
    first | refine zz_aload_n C dX2_delivers_73 rfl ?_ | refine zz_aload_nN C dX2_delivers_73 rfl ?_
    refine zz_iload_n C dX2_delivers_74 rfl ?_
    refine zz_callV C zy_X2_weight (ct_X2_weight (a := qa_del1 a b) b rfl hb ⟨fs, zz_lk1 hx hs, hf0, zz_us⟩) rfl q1313 (by first | assumption | exact zz_us | exact zz_lk1 (by assumption) (by assumption) | exact zz_lk3 (hd _ _ (by decide) (by decide) (by decide)) (by assumption) | exact zz_uf (by assumption) (by assumption) | (simp only [zz_up]; simp_all; done)) rfl rfl rfl rfl rfl rfl dX2_delivers_75 ⟨Nat.le_of_ble_eq_true rfl, Nat.le_of_ble_eq_true rfl⟩ (fun v hz hp => ?_)
    obtain ⟨rfl, ez⟩ := hp
    obtain rfl := ez.symm
    refine zz_iadd C dX2_delivers_78 ?_
    first | refine zz_iast2 C rfl (by omega) (by omega) dX2_delivers_79 ?_ | refine zz_iast C (by first | assumption | exact zz_us | exact zz_lk1 (by assumption) (by assumption) | exact zz_lk3 (hd _ _ (by decide) (by decide) (by decide)) (by assumption) | exact zz_uf (by assumption) (by assumption) | (simp only [zz_up]; simp_all; done)) rfl (by omega) (by omega) dX2_delivers_79 ?_
    refine zz_iload_n C dX2_delivers_80 rfl ?_
    refine zz_bipush (v := (-6)) C dX2_delivers_81 (by decide) ?_
    refine zz_icmp_eq (tgt := 108) C dX2_delivers_83 (by decide) (fun c83 => ?_) (fun c83 => ?_)
    · refine zz_iload_n C dX2_delivers_108 rfl ?_
      refine zz_iret C dX2_delivers_109 rfl rfl ?_
      first | exact absurd c15 c83 | exact absurd c83 c15 | exact ⟨by simp only [qa_inv]; rw [if_pos ‹_›], by simp only [qa_del]; rw [if_pos ‹_›]; rfl⟩ | exact ⟨by simp only [qa_inv]; rw [if_neg ‹_›], by simp only [qa_del]; rw [if_neg ‹_›, eoc]; simp only [qa_inv]; rw [if_neg ‹_›]; rfl⟩
    · obtain ⟨o, ho, eo⟩ := hor.resolve_left c83
      have eoc : (a (12 + 10 * b + 7)).toNatClampNeg = o := by rw [eo]; exact nI_clamp (by omega)
      first | refine zz_aload_n C dX2_delivers_86 rfl ?_ | refine zz_aload_nN C dX2_delivers_86 rfl ?_
      refine zz_get C rfl (by first | assumption | exact zz_us | exact zz_lk1 (by assumption) (by assumption) | exact zz_lk3 (hd _ _ (by decide) (by decide) (by decide)) (by assumption) | exact zz_uf (by assumption) (by assumption) | (simp only [zz_up]; simp_all; done)) rfl in_X2 0 rfl q1230 (fun _ h => h) (by first | rfl | assumption) dX2_delivers_87 ?_
      refine zz_iload_n C dX2_delivers_90 rfl ?_
      refine zz_iconst (v := nI 3) C dX2_delivers_91 (by decide) ?_
      refine zz_callS C zy_X2_ofOrderAt (ct_X2_ofOrderAt o 3 eo rfl) rfl q1353 rfl rfl rfl rfl rfl dX2_delivers_92 ⟨Nat.le_of_ble_eq_true rfl, Nat.le_of_ble_eq_true rfl⟩ (fun v hz hp => ?_)
      obtain ⟨rfl, ez⟩ := hp
      obtain rfl := ez.symm
      refine zz_iconst (v := 2) C dX2_delivers_95 (by decide) ?_
      first | refine zz_iast2 C rfl (by omega) (by omega) dX2_delivers_96 ?_ | refine zz_iast C (by first | assumption | exact zz_us | exact zz_lk1 (by assumption) (by assumption) | exact zz_lk3 (hd _ _ (by decide) (by decide) (by decide)) (by assumption) | exact zz_uf (by assumption) (by assumption) | (simp only [zz_up]; simp_all; done)) rfl (by omega) (by omega) dX2_delivers_96 ?_
      first | refine zz_aload_n C dX2_delivers_97 rfl ?_ | refine zz_aload_nN C dX2_delivers_97 rfl ?_
      refine zz_get C rfl (by first | assumption | exact zz_us | exact zz_lk1 (by assumption) (by assumption) | exact zz_lk3 (hd _ _ (by decide) (by decide) (by decide)) (by assumption) | exact zz_uf (by assumption) (by assumption) | (simp only [zz_up]; simp_all; done)) rfl in_X2 0 rfl q1230 (fun _ h => h) (by first | rfl | assumption) dX2_delivers_98 ?_
      refine zz_iload_n C dX2_delivers_101 rfl ?_
      refine zz_iconst (v := nI 5) C dX2_delivers_102 (by decide) ?_
      refine zz_callS C zy_X2_ofOrderAt (ct_X2_ofOrderAt o 5 eo rfl) rfl q1353 rfl rfl rfl rfl rfl dX2_delivers_103 ⟨Nat.le_of_ble_eq_true rfl, Nat.le_of_ble_eq_true rfl⟩ (fun v hz hp => ?_)
      obtain ⟨rfl, ez⟩ := hp
      obtain rfl := ez.symm
      refine zz_iload_n C dX2_delivers_106 rfl ?_
      first | refine zz_iast2 C rfl (by omega) (by omega) dX2_delivers_107 ?_ | refine zz_iast C (by first | assumption | exact zz_us | exact zz_lk1 (by assumption) (by assumption) | exact zz_lk3 (hd _ _ (by decide) (by decide) (by decide)) (by assumption) | exact zz_uf (by assumption) (by assumption) | (simp only [zz_up]; simp_all; done)) rfl (by omega) (by omega) dX2_delivers_107 ?_
      refine zz_iload_n C dX2_delivers_108 rfl ?_
      refine zz_iret C dX2_delivers_109 rfl rfl ?_
      first | exact absurd c15 c83 | exact absurd c83 c15 | exact ⟨by simp only [qa_inv]; rw [if_pos ‹_›], by simp only [qa_del]; rw [if_pos ‹_›]; rfl⟩ | exact ⟨by simp only [qa_inv]; rw [if_neg ‹_›], by simp only [qa_del]; rw [if_neg ‹_›, eoc]; simp only [qa_inv]; rw [if_neg ‹_›]; rfl⟩
  · refine zz_iconst (v := 0) C dX2_delivers_18 (by decide) ?_
    refine zz_goto (tgt := 40) C dX2_delivers_19 (by decide) ?_
    refine zz_istore_n C dX2_delivers_40 (by decide) ?_
    first | refine zz_aload_n C dX2_delivers_41 rfl ?_ | refine zz_aload_nN C dX2_delivers_41 rfl ?_
    refine zz_get C rfl (by first | assumption | exact zz_us | exact zz_lk1 (by assumption) (by assumption) | exact zz_lk3 (hd _ _ (by decide) (by decide) (by decide)) (by assumption) | exact zz_uf (by assumption) (by assumption) | (simp only [zz_up]; simp_all; done)) rfl in_X2 0 rfl q1230 (fun _ h => h) (by first | rfl | assumption) dX2_delivers_42 ?_
    refine zz_iload_n C dX2_delivers_45 rfl ?_
    refine zz_iconst (v := nI 4) C dX2_delivers_46 (by decide) ?_
    refine zz_callS C zy_X2_at (ct_X2_at _ _ rfl rfl) rfl q1310 rfl rfl rfl rfl rfl dX2_delivers_47 ⟨Nat.le_of_ble_eq_true rfl, Nat.le_of_ble_eq_true rfl⟩ (fun v hz hp => ?_)
    obtain ⟨rfl, ez⟩ := hp
    obtain rfl := ez.symm
    refine zz_iconst (v := 3) C dX2_delivers_50 (by decide) ?_
    first | refine zz_iast2 C rfl (by omega) (by omega) dX2_delivers_51 ?_ | refine zz_iast C (by first | assumption | exact zz_us | exact zz_lk1 (by assumption) (by assumption) | exact zz_lk3 (hd _ _ (by decide) (by decide) (by decide)) (by assumption) | exact zz_uf (by assumption) (by assumption) | (simp only [zz_up]; simp_all; done)) rfl (by omega) (by omega) dX2_delivers_51 ?_
    first | refine zz_aload_n C dX2_delivers_52 rfl ?_ | refine zz_aload_nN C dX2_delivers_52 rfl ?_
    refine zz_get C rfl (by first | assumption | exact zz_us | exact zz_lk1 (by assumption) (by assumption) | exact zz_lk3 (hd _ _ (by decide) (by decide) (by decide)) (by assumption) | exact zz_uf (by assumption) (by assumption) | (simp only [zz_up]; simp_all; done)) rfl in_X2 0 rfl q1230 (fun _ h => h) (by first | rfl | assumption) dX2_delivers_53 ?_
    refine zz_iload_n C dX2_delivers_56 rfl ?_
    refine zz_bipush (v := nI 8) C dX2_delivers_57 (by decide) ?_
    refine zz_callS C zy_X2_at (ct_X2_at _ _ rfl rfl) rfl q1310 rfl rfl rfl rfl rfl dX2_delivers_59 ⟨Nat.le_of_ble_eq_true rfl, Nat.le_of_ble_eq_true rfl⟩ (fun v hz hp => ?_)
    obtain ⟨rfl, ez⟩ := hp
    obtain rfl := ez.symm
    refine zz_bipush (v := (-6)) C dX2_delivers_62 (by decide) ?_
    first | refine zz_iast2 C rfl (by omega) (by omega) dX2_delivers_64 ?_ | refine zz_iast C (by first | assumption | exact zz_us | exact zz_lk1 (by assumption) (by assumption) | exact zz_lk3 (hd _ _ (by decide) (by decide) (by decide)) (by assumption) | exact zz_uf (by assumption) (by assumption) | (simp only [zz_up]; simp_all; done)) rfl (by omega) (by omega) dX2_delivers_64 ?_
    first | refine zz_aload_n C dX2_delivers_65 rfl ?_ | refine zz_aload_nN C dX2_delivers_65 rfl ?_
    refine zz_get C rfl (by first | assumption | exact zz_us | exact zz_lk1 (by assumption) (by assumption) | exact zz_lk3 (hd _ _ (by decide) (by decide) (by decide)) (by assumption) | exact zz_uf (by assumption) (by assumption) | (simp only [zz_up]; simp_all; done)) rfl in_X2 0 rfl q1230 (fun _ h => h) (by first | rfl | assumption) dX2_delivers_66 ?_
    refine zz_bipush (v := nI 10) C dX2_delivers_69 (by decide) ?_
    refine zz_dup2 C dX2_delivers_71 rfl rfl ?_
    refine zz_iald C (by first | assumption | exact zz_us | exact zz_lk1 (by assumption) (by assumption) | exact zz_lk3 (hd _ _ (by decide) (by decide) (by decide)) (by assumption) | exact zz_uf (by assumption) (by assumption) | (simp only [zz_up]; simp_all; done)) rfl (by omega) (by omega) dX2_delivers_72 ?_
    first | refine zz_aload_n C dX2_delivers_73 rfl ?_ | refine zz_aload_nN C dX2_delivers_73 rfl ?_
    refine zz_iload_n C dX2_delivers_74 rfl ?_
    refine zz_callV C zy_X2_weight (ct_X2_weight (a := qa_del1 a b) b rfl hb ⟨fs, zz_lk1 hx hs, hf0, zz_us⟩) rfl q1313 (by first | assumption | exact zz_us | exact zz_lk1 (by assumption) (by assumption) | exact zz_lk3 (hd _ _ (by decide) (by decide) (by decide)) (by assumption) | exact zz_uf (by assumption) (by assumption) | (simp only [zz_up]; simp_all; done)) rfl rfl rfl rfl rfl rfl dX2_delivers_75 ⟨Nat.le_of_ble_eq_true rfl, Nat.le_of_ble_eq_true rfl⟩ (fun v hz hp => ?_)
    obtain ⟨rfl, ez⟩ := hp
    obtain rfl := ez.symm
    refine zz_iadd C dX2_delivers_78 ?_
    first | refine zz_iast2 C rfl (by omega) (by omega) dX2_delivers_79 ?_ | refine zz_iast C (by first | assumption | exact zz_us | exact zz_lk1 (by assumption) (by assumption) | exact zz_lk3 (hd _ _ (by decide) (by decide) (by decide)) (by assumption) | exact zz_uf (by assumption) (by assumption) | (simp only [zz_up]; simp_all; done)) rfl (by omega) (by omega) dX2_delivers_79 ?_
    refine zz_iload_n C dX2_delivers_80 rfl ?_
    refine zz_bipush (v := (-6)) C dX2_delivers_81 (by decide) ?_
    refine zz_icmp_eq (tgt := 108) C dX2_delivers_83 (by decide) (fun c83 => ?_) (fun c83 => ?_)
    · refine zz_iload_n C dX2_delivers_108 rfl ?_
      refine zz_iret C dX2_delivers_109 rfl rfl ?_
      first | exact absurd c15 c83 | exact absurd c83 c15 | exact ⟨by simp only [qa_inv]; rw [if_pos ‹_›], by simp only [qa_del]; rw [if_pos ‹_›]; rfl⟩ | exact ⟨by simp only [qa_inv]; rw [if_neg ‹_›], by simp only [qa_del]; rw [if_neg ‹_›, eoc]; simp only [qa_inv]; rw [if_neg ‹_›]; rfl⟩
    · obtain ⟨o, ho, eo⟩ := hor.resolve_left c83
      have eoc : (a (12 + 10 * b + 7)).toNatClampNeg = o := by rw [eo]; exact nI_clamp (by omega)
      first | refine zz_aload_n C dX2_delivers_86 rfl ?_ | refine zz_aload_nN C dX2_delivers_86 rfl ?_
      refine zz_get C rfl (by first | assumption | exact zz_us | exact zz_lk1 (by assumption) (by assumption) | exact zz_lk3 (hd _ _ (by decide) (by decide) (by decide)) (by assumption) | exact zz_uf (by assumption) (by assumption) | (simp only [zz_up]; simp_all; done)) rfl in_X2 0 rfl q1230 (fun _ h => h) (by first | rfl | assumption) dX2_delivers_87 ?_
      refine zz_iload_n C dX2_delivers_90 rfl ?_
      refine zz_iconst (v := nI 3) C dX2_delivers_91 (by decide) ?_
      refine zz_callS C zy_X2_ofOrderAt (ct_X2_ofOrderAt o 3 eo rfl) rfl q1353 rfl rfl rfl rfl rfl dX2_delivers_92 ⟨Nat.le_of_ble_eq_true rfl, Nat.le_of_ble_eq_true rfl⟩ (fun v hz hp => ?_)
      obtain ⟨rfl, ez⟩ := hp
      obtain rfl := ez.symm
      refine zz_iconst (v := 2) C dX2_delivers_95 (by decide) ?_
      first | refine zz_iast2 C rfl (by omega) (by omega) dX2_delivers_96 ?_ | refine zz_iast C (by first | assumption | exact zz_us | exact zz_lk1 (by assumption) (by assumption) | exact zz_lk3 (hd _ _ (by decide) (by decide) (by decide)) (by assumption) | exact zz_uf (by assumption) (by assumption) | (simp only [zz_up]; simp_all; done)) rfl (by omega) (by omega) dX2_delivers_96 ?_
      first | refine zz_aload_n C dX2_delivers_97 rfl ?_ | refine zz_aload_nN C dX2_delivers_97 rfl ?_
      refine zz_get C rfl (by first | assumption | exact zz_us | exact zz_lk1 (by assumption) (by assumption) | exact zz_lk3 (hd _ _ (by decide) (by decide) (by decide)) (by assumption) | exact zz_uf (by assumption) (by assumption) | (simp only [zz_up]; simp_all; done)) rfl in_X2 0 rfl q1230 (fun _ h => h) (by first | rfl | assumption) dX2_delivers_98 ?_
      refine zz_iload_n C dX2_delivers_101 rfl ?_
      refine zz_iconst (v := nI 5) C dX2_delivers_102 (by decide) ?_
      refine zz_callS C zy_X2_ofOrderAt (ct_X2_ofOrderAt o 5 eo rfl) rfl q1353 rfl rfl rfl rfl rfl dX2_delivers_103 ⟨Nat.le_of_ble_eq_true rfl, Nat.le_of_ble_eq_true rfl⟩ (fun v hz hp => ?_)
      obtain ⟨rfl, ez⟩ := hp
      obtain rfl := ez.symm
      refine zz_iload_n C dX2_delivers_106 rfl ?_
      first | refine zz_iast2 C rfl (by omega) (by omega) dX2_delivers_107 ?_ | refine zz_iast C (by first | assumption | exact zz_us | exact zz_lk1 (by assumption) (by assumption) | exact zz_lk3 (hd _ _ (by decide) (by decide) (by decide)) (by assumption) | exact zz_uf (by assumption) (by assumption) | (simp only [zz_up]; simp_all; done)) rfl (by omega) (by omega) dX2_delivers_107 ?_
      refine zz_iload_n C dX2_delivers_108 rfl ?_
      refine zz_iret C dX2_delivers_109 rfl rfl ?_
      first | exact absurd c15 c83 | exact absurd c83 c15 | exact ⟨by simp only [qa_inv]; rw [if_pos ‹_›], by simp only [qa_del]; rw [if_pos ‹_›]; rfl⟩ | exact ⟨by simp only [qa_inv]; rw [if_neg ‹_›], by simp only [qa_del]; rw [if_neg ‹_›, eoc]; simp only [qa_inv]; rw [if_neg ‹_›]; rfl⟩

theorem ct_X2_quarries {l : Launch} {D : va_G} {b0 : Nat} {h : zz_H} {x s0 : Nat} {a : Nat → Int32} {v0 v1 v2 v3 : Int32} (nb : Nat) (h5 : a 5 = nI nb) (hnb : nb ≤ 24) (hM : tw_M D h x s0 a) : zz_Ct l D b0 yX2_quarries cX2_quarries 6 (some .int) 2 47 0 0 [.ref x, .int v0, .int v1, .int v2, .int v3] h (fun v h' => v = some (.int (op_quarries a v0 v1 v2 v3).1) ∧ h' = zz_up h s0 (.inl (D.1 100, 324, .inl (op_quarries a v0 v1 v2 v3).2))) := by
  refine zz_Ct.of zy_X2_quarries.1 rfl ?_
  intro p e s m below meth c C
  have hM0 := hM
  obtain ⟨fs, hx, hf0, hs⟩ := hM0
  have hn5 : (a 5).toNatClampNeg = nb := by rw [h5]; exact nI_clamp (by omega)
  refine zz_iload_n C dX2_quarries_0 rfl ?_
  refine zz_callS C zy_X2_isSize (ct_X2_isSize) rfl q1303 rfl rfl rfl rfl rfl dX2_quarries_1 ⟨Nat.le_of_ble_eq_true rfl, Nat.le_of_ble_eq_true rfl⟩ (fun v hz hp => ?_)
  obtain ⟨rfl, ez⟩ := hp
  obtain rfl := ez.symm
  first | refine zz_ifb_eq (tgt := 33) C dX2_quarries_4 (by decide) (fun c4 => ?_) (fun c4 => ?_) | refine zz_if_eq (tgt := 33) C dX2_quarries_4 (by decide) (fun c4 => ?_) (fun c4 => ?_)
  · refine zz_bipush (v := (-2)) C dX2_quarries_33 (by decide) ?_
    refine zz_iret C dX2_quarries_35 rfl rfl ?_
    refine ⟨?_, ?_⟩
    · first | (simp_all [op_quarries, -Int32.not_le, -Int32.not_lt]; done) | (simp_all [op_quarries, -Int32.not_le, -Int32.not_lt]; rfl)
    · first | (simp_all [op_quarries, -Int32.not_le, -Int32.not_lt, zz_upsame]; done) | (simp_all [op_quarries, -Int32.not_le, -Int32.not_lt, zz_upsame]; rfl)
  · refine zz_iload_n C dX2_quarries_7 rfl ?_
    refine zz_callS C zy_X2_isSize (ct_X2_isSize) rfl q1303 rfl rfl rfl rfl rfl dX2_quarries_8 ⟨Nat.le_of_ble_eq_true rfl, Nat.le_of_ble_eq_true rfl⟩ (fun v hz hp => ?_)
    obtain ⟨rfl, ez⟩ := hp
    obtain rfl := ez.symm
    first | refine zz_ifb_eq (tgt := 33) C dX2_quarries_11 (by decide) (fun c11 => ?_) (fun c11 => ?_) | refine zz_if_eq (tgt := 33) C dX2_quarries_11 (by decide) (fun c11 => ?_) (fun c11 => ?_)
    · refine zz_bipush (v := (-2)) C dX2_quarries_33 (by decide) ?_
      refine zz_iret C dX2_quarries_35 rfl rfl ?_
      refine ⟨?_, ?_⟩
      · first | (simp_all [op_quarries, -Int32.not_le, -Int32.not_lt]; done) | (simp_all [op_quarries, -Int32.not_le, -Int32.not_lt]; rfl)
      · first | (simp_all [op_quarries, -Int32.not_le, -Int32.not_lt, zz_upsame]; done) | (simp_all [op_quarries, -Int32.not_le, -Int32.not_lt, zz_upsame]; rfl)
    · refine zz_iload_n C dX2_quarries_14 rfl ?_
      refine zz_callS C zy_X2_isSize (ct_X2_isSize) rfl q1303 rfl rfl rfl rfl rfl dX2_quarries_15 ⟨Nat.le_of_ble_eq_true rfl, Nat.le_of_ble_eq_true rfl⟩ (fun v hz hp => ?_)
      obtain ⟨rfl, ez⟩ := hp
      obtain rfl := ez.symm
      first | refine zz_ifb_eq (tgt := 33) C dX2_quarries_18 (by decide) (fun c18 => ?_) (fun c18 => ?_) | refine zz_if_eq (tgt := 33) C dX2_quarries_18 (by decide) (fun c18 => ?_) (fun c18 => ?_)
      · refine zz_bipush (v := (-2)) C dX2_quarries_33 (by decide) ?_
        refine zz_iret C dX2_quarries_35 rfl rfl ?_
        refine ⟨?_, ?_⟩
        · first | (simp_all [op_quarries, -Int32.not_le, -Int32.not_lt]; done) | (simp_all [op_quarries, -Int32.not_le, -Int32.not_lt]; rfl)
        · first | (simp_all [op_quarries, -Int32.not_le, -Int32.not_lt, zz_upsame]; done) | (simp_all [op_quarries, -Int32.not_le, -Int32.not_lt, zz_upsame]; rfl)
      · refine zz_iload C dX2_quarries_21 rfl ?_
        refine zz_bipush (v := 20) C dX2_quarries_23 (by decide) ?_
        refine zz_bipush (v := 30) C dX2_quarries_25 (by decide) ?_
        refine zz_callS C zy_X2_in (ct_X2_in) rfl q1272 rfl rfl rfl rfl rfl dX2_quarries_27 ⟨Nat.le_of_ble_eq_true rfl, Nat.le_of_ble_eq_true rfl⟩ (fun v hz hp => ?_)
        obtain ⟨rfl, ez⟩ := hp
        obtain rfl := ez.symm
        first | refine zz_ifb_ne (tgt := 36) C dX2_quarries_30 (by decide) (fun c30 => ?_) (fun c30 => ?_) | refine zz_if_ne (tgt := 36) C dX2_quarries_30 (by decide) (fun c30 => ?_) (fun c30 => ?_)
        · first | refine zz_aload_n C dX2_quarries_36 rfl ?_ | refine zz_aload_nN C dX2_quarries_36 rfl ?_
          refine zz_get C rfl (by first | assumption | exact zz_us | exact zz_lk1 (by assumption) (by assumption) | exact zz_lk3 (hd _ _ (by decide) (by decide) (by decide)) (by assumption) | exact zz_uf (by assumption) (by assumption) | (simp only [zz_up]; simp_all; done)) rfl in_X2 0 rfl q1230 (fun _ h => h) (by first | rfl | assumption) dX2_quarries_37 ?_
          refine zz_iconst (v := nI 5) C dX2_quarries_40 (by decide) ?_
          refine zz_iald C (by first | assumption | exact zz_us | exact zz_lk1 (by assumption) (by assumption) | exact zz_lk3 (hd _ _ (by decide) (by decide) (by decide)) (by assumption) | exact zz_uf (by assumption) (by assumption) | (simp only [zz_up]; simp_all; done)) rfl (by omega) (by omega) dX2_quarries_41 ?_
          refine zz_bipush (v := 24) C dX2_quarries_42 (by decide) ?_
          refine zz_icmp_ne (tgt := 50) C dX2_quarries_44 (by decide) (fun c44 => ?_) (fun c44 => ?_)
          · have hnb2 : nb < 24 := by
              have h24 : nb ≠ 24 := (fun q => c44 (by rw [h5, q]; rfl))
              omega
            first | refine zz_aload_n C dX2_quarries_50 rfl ?_ | refine zz_aload_nN C dX2_quarries_50 rfl ?_
            refine zz_iload_n C dX2_quarries_51 rfl ?_
            refine zz_iload_n C dX2_quarries_52 rfl ?_
            refine zz_iload_n C dX2_quarries_53 rfl ?_
            refine zz_iload C dX2_quarries_54 rfl ?_
            refine zz_callV C zy_X2_newBlock (ct_X2_newBlock nb h5 (by have h24 : nb ≠ 24 := (fun q => c44 (by rw [h5, q]; rfl)); omega) hM) rfl q1306 (by first | assumption | exact zz_us | exact zz_lk1 (by assumption) (by assumption) | exact zz_lk3 (hd _ _ (by decide) (by decide) (by decide)) (by assumption) | exact zz_uf (by assumption) (by assumption) | (simp only [zz_up]; simp_all; done)) rfl rfl rfl rfl rfl rfl dX2_quarries_56 ⟨Nat.le_of_ble_eq_true rfl, Nat.le_of_ble_eq_true rfl⟩ (fun v hz hp => ?_)
            obtain ⟨rfl, ez⟩ := hp
            obtain rfl := ez.symm
            refine zz_istore C dX2_quarries_59 (by decide) ?_
            first | refine zz_aload_n C dX2_quarries_61 rfl ?_ | refine zz_aload_nN C dX2_quarries_61 rfl ?_
            refine zz_get C rfl (by first | assumption | exact zz_us | exact zz_lk1 (by assumption) (by assumption) | exact zz_lk3 (hd _ _ (by decide) (by decide) (by decide)) (by assumption) | exact zz_uf (by assumption) (by assumption) | (simp only [zz_up]; simp_all; done)) rfl in_X2 0 rfl q1230 (fun _ h => h) (by first | rfl | assumption) dX2_quarries_62 ?_
            refine zz_iload C dX2_quarries_65 rfl ?_
            refine zz_iconst (v := nI 5) C dX2_quarries_67 (by decide) ?_
            refine zz_callS C zy_X2_at (ct_X2_at nb 5 rfl rfl) rfl q1310 rfl rfl rfl rfl rfl dX2_quarries_68 ⟨Nat.le_of_ble_eq_true rfl, Nat.le_of_ble_eq_true rfl⟩ (fun v hz hp => ?_)
            obtain ⟨rfl, ez⟩ := hp
            obtain rfl := ez.symm
            refine zz_iconst (v := 3) C dX2_quarries_71 (by decide) ?_
            first | refine zz_iast2 C rfl (by omega) (by omega) dX2_quarries_72 ?_ | refine zz_iast C (by first | assumption | exact zz_us | exact zz_lk1 (by assumption) (by assumption) | exact zz_lk3 (hd _ _ (by decide) (by decide) (by decide)) (by assumption) | exact zz_uf (by assumption) (by assumption) | (simp only [zz_up]; simp_all; done)) rfl (by omega) (by omega) dX2_quarries_72 ?_
            first | refine zz_aload_n C dX2_quarries_73 rfl ?_ | refine zz_aload_nN C dX2_quarries_73 rfl ?_
            refine zz_get C rfl (by first | assumption | exact zz_us | exact zz_lk1 (by assumption) (by assumption) | exact zz_lk3 (hd _ _ (by decide) (by decide) (by decide)) (by assumption) | exact zz_uf (by assumption) (by assumption) | (simp only [zz_up]; simp_all; done)) rfl in_X2 0 rfl q1230 (fun _ h => h) (by first | rfl | assumption) dX2_quarries_74 ?_
            refine zz_bipush (v := nI 8) C dX2_quarries_77 (by decide) ?_
            refine zz_dup2 C dX2_quarries_79 rfl rfl ?_
            refine zz_iald C (by first | assumption | exact zz_us | exact zz_lk1 (by assumption) (by assumption) | exact zz_lk3 (hd _ _ (by decide) (by decide) (by decide)) (by assumption) | exact zz_uf (by assumption) (by assumption) | (simp only [zz_up]; simp_all; done)) rfl (by omega) (by omega) dX2_quarries_80 ?_
            first | refine zz_aload_n C dX2_quarries_81 rfl ?_ | refine zz_aload_nN C dX2_quarries_81 rfl ?_
            refine zz_iload C dX2_quarries_82 rfl ?_
            refine zz_callV C zy_X2_weight (ct_X2_weight (a := qa_qua a nb v0 v1 v2 v3) nb rfl (by omega) ⟨fs, zz_lk1 hx hs, hf0, zz_us⟩) rfl q1313 (by first | assumption | exact zz_us | exact zz_lk1 (by assumption) (by assumption) | exact zz_lk3 (hd _ _ (by decide) (by decide) (by decide)) (by assumption) | exact zz_uf (by assumption) (by assumption) | (simp only [zz_up]; simp_all; done)) rfl rfl rfl rfl rfl rfl dX2_quarries_84 ⟨Nat.le_of_ble_eq_true rfl, Nat.le_of_ble_eq_true rfl⟩ (fun v hz hp => ?_)
            obtain ⟨rfl, ez⟩ := hp
            obtain rfl := ez.symm
            refine zz_iadd C dX2_quarries_87 ?_
            first | refine zz_iast2 C rfl (by omega) (by omega) dX2_quarries_88 ?_ | refine zz_iast C (by first | assumption | exact zz_us | exact zz_lk1 (by assumption) (by assumption) | exact zz_lk3 (hd _ _ (by decide) (by decide) (by decide)) (by assumption) | exact zz_uf (by assumption) (by assumption) | (simp only [zz_up]; simp_all; done)) rfl (by omega) (by omega) dX2_quarries_88 ?_
            refine zz_iload C dX2_quarries_89 rfl ?_
            refine zz_iret C dX2_quarries_91 rfl rfl ?_
            refine ⟨?_, ?_⟩
            · first | (simp_all [op_quarries, -Int32.not_le, -Int32.not_lt]; done) | (simp_all [op_quarries, -Int32.not_le, -Int32.not_lt]; rfl)
            · first | (simp_all [op_quarries, -Int32.not_le, -Int32.not_lt, zz_upsame]; done) | (simp_all [op_quarries, -Int32.not_le, -Int32.not_lt, zz_upsame]; rfl)
          · refine zz_bipush (v := (-4)) C dX2_quarries_47 (by decide) ?_
            refine zz_iret C dX2_quarries_49 rfl rfl ?_
            refine ⟨?_, ?_⟩
            · first | (simp_all [op_quarries, -Int32.not_le, -Int32.not_lt]; done) | (simp_all [op_quarries, -Int32.not_le, -Int32.not_lt]; rfl)
            · first | (simp_all [op_quarries, -Int32.not_le, -Int32.not_lt, zz_upsame]; done) | (simp_all [op_quarries, -Int32.not_le, -Int32.not_lt, zz_upsame]; rfl)
        · refine zz_bipush (v := (-2)) C dX2_quarries_33 (by decide) ?_
          refine zz_iret C dX2_quarries_35 rfl rfl ?_
          refine ⟨?_, ?_⟩
          · first | (simp_all [op_quarries, -Int32.not_le, -Int32.not_lt]; done) | (simp_all [op_quarries, -Int32.not_le, -Int32.not_lt]; rfl)
          · first | (simp_all [op_quarries, -Int32.not_le, -Int32.not_lt, zz_upsame]; done) | (simp_all [op_quarries, -Int32.not_le, -Int32.not_lt, zz_upsame]; rfl)

theorem ct_X2_cuts {l : Launch} {D : va_G} {b0 : Nat} {h : zz_H} {x s0 : Nat} {a : Nat → Int32} {v0 v1 v2 : Int32} (nb : Nat) (h5 : a 5 = nI nb) (hnb : nb ≤ 24) (hM : tw_M D h x s0 a) : zz_Ct l D b0 yX2_cuts cX2_cuts 8 (some .int) 4 85 0 0 [.ref x, .int v0, .int v1, .int v2] h (fun v h' => v = some (.int (op_cuts a v0 v1 v2).1) ∧ h' = zz_up h s0 (.inl (D.1 100, 324, .inl (op_cuts a v0 v1 v2).2))) := by
  refine zz_Ct.of zy_X2_cuts.1 rfl ?_
  intro p e s m below meth c C
  have hM0 := hM
  obtain ⟨fs, hx, hf0, hs⟩ := hM0
  have hn5 : (a 5).toNatClampNeg = nb := by rw [h5]; exact nI_clamp (by omega)
  first | refine zz_aload_n C dX2_cuts_0 rfl ?_ | refine zz_aload_nN C dX2_cuts_0 rfl ?_
  refine zz_iload_n C dX2_cuts_1 rfl ?_
  refine zz_callV C zy_X2_isBlock (ct_X2_isBlock hM) rfl q1321 (by first | assumption | exact zz_us | exact zz_lk1 (by assumption) (by assumption) | exact zz_lk3 (hd _ _ (by decide) (by decide) (by decide)) (by assumption) | exact zz_uf (by assumption) (by assumption) | (simp only [zz_up]; simp_all; done)) rfl rfl rfl rfl rfl rfl dX2_cuts_2 ⟨Nat.le_of_ble_eq_true rfl, Nat.le_of_ble_eq_true rfl⟩ (fun v hz hp => ?_)
  obtain ⟨rfl, ez⟩ := hp
  obtain rfl := ez.symm
  first | refine zz_ifb_ne (tgt := 10) C dX2_cuts_5 (by decide) (fun c5 => ?_) (fun c5 => ?_) | refine zz_if_ne (tgt := 10) C dX2_cuts_5 (by decide) (fun c5 => ?_) (fun c5 => ?_)
  · obtain ⟨b, hb, rfl⟩ := qa_ix (n := nb) (by omega) (by rw [← h5]; assumption)
    have ebn : (nI b).toNatClampNeg = b := nI_clamp (by omega)
    refine zz_iload_n C dX2_cuts_10 rfl ?_
    refine zz_iconst (v := 0) C dX2_cuts_11 (by decide) ?_
    refine zz_iconst (v := 2) C dX2_cuts_12 (by decide) ?_
    refine zz_callS C zy_X2_in (ct_X2_in) rfl q1272 rfl rfl rfl rfl rfl dX2_cuts_13 ⟨Nat.le_of_ble_eq_true rfl, Nat.le_of_ble_eq_true rfl⟩ (fun v hz hp => ?_)
    obtain ⟨rfl, ez⟩ := hp
    obtain rfl := ez.symm
    first | refine zz_ifb_eq (tgt := 26) C dX2_cuts_16 (by decide) (fun c16 => ?_) (fun c16 => ?_) | refine zz_if_eq (tgt := 26) C dX2_cuts_16 (by decide) (fun c16 => ?_) (fun c16 => ?_)
    · refine zz_bipush (v := (-2)) C dX2_cuts_26 (by decide) ?_
      refine zz_iret C dX2_cuts_28 rfl rfl ?_
      refine ⟨?_, ?_⟩
      · first | (simp_all [op_cuts, qa_rest, -Int32.not_le, -Int32.not_lt]; done) | (simp_all [op_cuts, qa_rest, -Int32.not_le, -Int32.not_lt]; rfl)
      · first | (simp_all [op_cuts, qa_rest, -Int32.not_le, -Int32.not_lt, zz_upsame]; done) | (simp_all [op_cuts, qa_rest, -Int32.not_le, -Int32.not_lt, zz_upsame]; rfl)
    · refine zz_iload_n C dX2_cuts_19 rfl ?_
      refine zz_callS C zy_X2_isSize (ct_X2_isSize) rfl q1303 rfl rfl rfl rfl rfl dX2_cuts_20 ⟨Nat.le_of_ble_eq_true rfl, Nat.le_of_ble_eq_true rfl⟩ (fun v hz hp => ?_)
      obtain ⟨rfl, ez⟩ := hp
      obtain rfl := ez.symm
      first | refine zz_ifb_ne (tgt := 29) C dX2_cuts_23 (by decide) (fun c23 => ?_) (fun c23 => ?_) | refine zz_if_ne (tgt := 29) C dX2_cuts_23 (by decide) (fun c23 => ?_) (fun c23 => ?_)
      · obtain ⟨k, hk, rfl⟩ := qa_ixk 2 (by omega) c16
        have ekn : (nI k).toNatClampNeg = k := nI_clamp (by omega)
        have hwr : ¬ nb = 0 := by omega
        first | refine zz_aload_n C dX2_cuts_29 rfl ?_ | refine zz_aload_nN C dX2_cuts_29 rfl ?_
        refine zz_get C rfl (by first | assumption | exact zz_us | exact zz_lk1 (by assumption) (by assumption) | exact zz_lk3 (hd _ _ (by decide) (by decide) (by decide)) (by assumption) | exact zz_uf (by assumption) (by assumption) | (simp only [zz_up]; simp_all; done)) rfl in_X2 0 rfl q1230 (fun _ h => h) (by first | rfl | assumption) dX2_cuts_30 ?_
        refine zz_iload_n C dX2_cuts_33 rfl ?_
        refine zz_iload_n C dX2_cuts_34 rfl ?_
        refine zz_callS C zy_X2_at (ct_X2_at b k rfl rfl) rfl q1310 rfl rfl rfl rfl rfl dX2_cuts_35 ⟨Nat.le_of_ble_eq_true rfl, Nat.le_of_ble_eq_true rfl⟩ (fun v hz hp => ?_)
        obtain ⟨rfl, ez⟩ := hp
        obtain rfl := ez.symm
        refine zz_iald C (by first | assumption | exact zz_us | exact zz_lk1 (by assumption) (by assumption) | exact zz_lk3 (hd _ _ (by decide) (by decide) (by decide)) (by assumption) | exact zz_uf (by assumption) (by assumption) | (simp only [zz_up]; simp_all; done)) rfl (by omega) (by omega) dX2_cuts_38 ?_
        refine zz_iload_n C dX2_cuts_39 rfl ?_
        refine zz_isub C dX2_cuts_40 ?_
        first | refine zz_aload_n C dX2_cuts_41 rfl ?_ | refine zz_aload_nN C dX2_cuts_41 rfl ?_
        refine zz_get C rfl (by first | assumption | exact zz_us | exact zz_lk1 (by assumption) (by assumption) | exact zz_lk3 (hd _ _ (by decide) (by decide) (by decide)) (by assumption) | exact zz_uf (by assumption) (by assumption) | (simp only [zz_up]; simp_all; done)) rfl in_X2 0 rfl q1230 (fun _ h => h) (by first | rfl | assumption) dX2_cuts_42 ?_
        refine zz_iconst (v := nI 0) C dX2_cuts_45 (by decide) ?_
        refine zz_iald C (by first | assumption | exact zz_us | exact zz_lk1 (by assumption) (by assumption) | exact zz_lk3 (hd _ _ (by decide) (by decide) (by decide)) (by assumption) | exact zz_uf (by assumption) (by assumption) | (simp only [zz_up]; simp_all; done)) rfl (by omega) (by omega) dX2_cuts_46 ?_
        refine zz_isub C dX2_cuts_47 ?_
        refine zz_istore C dX2_cuts_48 (by decide) ?_
        first | refine zz_aload_n C dX2_cuts_50 rfl ?_ | refine zz_aload_nN C dX2_cuts_50 rfl ?_
        refine zz_iload_n C dX2_cuts_51 rfl ?_
        refine zz_callV C zy_X2_canBeCut (ct_X2_canBeCut b rfl (by omega) hM) rfl q1325 (by first | assumption | exact zz_us | exact zz_lk1 (by assumption) (by assumption) | exact zz_lk3 (hd _ _ (by decide) (by decide) (by decide)) (by assumption) | exact zz_uf (by assumption) (by assumption) | (simp only [zz_up]; simp_all; done)) rfl rfl rfl rfl rfl rfl dX2_cuts_52 ⟨Nat.le_of_ble_eq_true rfl, Nat.le_of_ble_eq_true rfl⟩ (fun v hz hp => ?_)
        obtain ⟨rfl, ez⟩ := hp
        obtain rfl := ez.symm
        first | refine zz_ifb_eq (tgt := 64) C dX2_cuts_55 (by decide) (fun c55 => ?_) (fun c55 => ?_) | refine zz_if_eq (tgt := 64) C dX2_cuts_55 (by decide) (fun c55 => ?_) (fun c55 => ?_)
        · refine zz_bipush (v := (-5)) C dX2_cuts_64 (by decide) ?_
          refine zz_iret C dX2_cuts_66 rfl rfl ?_
          refine ⟨?_, ?_⟩
          · first | (simp_all [op_cuts, qa_rest, -Int32.not_le, -Int32.not_lt]; done) | (simp_all [op_cuts, qa_rest, -Int32.not_le, -Int32.not_lt]; rfl)
          · first | (simp_all [op_cuts, qa_rest, -Int32.not_le, -Int32.not_lt, zz_upsame]; done) | (simp_all [op_cuts, qa_rest, -Int32.not_le, -Int32.not_lt, zz_upsame]; rfl)
        · refine zz_iload C dX2_cuts_58 rfl ?_
          refine zz_iconst (v := 1) C dX2_cuts_60 (by decide) ?_
          refine zz_icmp_ge (tgt := 67) C dX2_cuts_61 (by decide) (fun c61 => ?_) (fun c61 => ?_)
          · first | refine zz_aload_n C dX2_cuts_67 rfl ?_ | refine zz_aload_nN C dX2_cuts_67 rfl ?_
            refine zz_get C rfl (by first | assumption | exact zz_us | exact zz_lk1 (by assumption) (by assumption) | exact zz_lk3 (hd _ _ (by decide) (by decide) (by decide)) (by assumption) | exact zz_uf (by assumption) (by assumption) | (simp only [zz_up]; simp_all; done)) rfl in_X2 0 rfl q1230 (fun _ h => h) (by first | rfl | assumption) dX2_cuts_68 ?_
            refine zz_iconst (v := nI 5) C dX2_cuts_71 (by decide) ?_
            refine zz_iald C (by first | assumption | exact zz_us | exact zz_lk1 (by assumption) (by assumption) | exact zz_lk3 (hd _ _ (by decide) (by decide) (by decide)) (by assumption) | exact zz_uf (by assumption) (by assumption) | (simp only [zz_up]; simp_all; done)) rfl (by omega) (by omega) dX2_cuts_72 ?_
            refine zz_iconst (v := 2) C dX2_cuts_73 (by decide) ?_
            refine zz_iadd C dX2_cuts_74 ?_
            refine zz_bipush (v := 24) C dX2_cuts_75 (by decide) ?_
            refine zz_icmp_le (tgt := 83) C dX2_cuts_77 (by decide) (fun c77 => ?_) (fun c77 => ?_)
            · have hnb3 : nb + 2 ≤ 24 := (nI_leI (a := nb + 2) (b := 24) (by omega) (by omega)).mp (by have h9 := c77; rw [h5] at h9; rw [← nI_add]; exact h9)
              have e52 : a 5 + 1 = nI (nb + 1) := by rw [h5]; exact nI_1 nb
              first | refine zz_aload_n C dX2_cuts_83 rfl ?_ | refine zz_aload_nN C dX2_cuts_83 rfl ?_
              refine zz_get C rfl (by first | assumption | exact zz_us | exact zz_lk1 (by assumption) (by assumption) | exact zz_lk3 (hd _ _ (by decide) (by decide) (by decide)) (by assumption) | exact zz_uf (by assumption) (by assumption) | (simp only [zz_up]; simp_all; done)) rfl in_X2 0 rfl q1230 (fun _ h => h) (by first | rfl | assumption) dX2_cuts_84 ?_
              refine zz_iconst (v := nI 5) C dX2_cuts_87 (by decide) ?_
              refine zz_iald C (by first | assumption | exact zz_us | exact zz_lk1 (by assumption) (by assumption) | exact zz_lk3 (hd _ _ (by decide) (by decide) (by decide)) (by assumption) | exact zz_uf (by assumption) (by assumption) | (simp only [zz_up]; simp_all; done)) rfl (by omega) (by omega) dX2_cuts_88 ?_
              refine zz_istore C dX2_cuts_89 (by decide) ?_
              first | refine zz_aload_n C dX2_cuts_91 rfl ?_ | refine zz_aload_nN C dX2_cuts_91 rfl ?_
              refine zz_iload_n C dX2_cuts_92 rfl ?_
              refine zz_iconst (v := 1) C dX2_cuts_93 (by decide) ?_
              refine zz_callV C zy_X2_isAt (ct_X2_isAt b rfl (by omega) hM) rfl q1333 (by first | assumption | exact zz_us | exact zz_lk1 (by assumption) (by assumption) | exact zz_lk3 (hd _ _ (by decide) (by decide) (by decide)) (by assumption) | exact zz_uf (by assumption) (by assumption) | (simp only [zz_up]; simp_all; done)) rfl rfl rfl rfl rfl rfl dX2_cuts_94 ⟨Nat.le_of_ble_eq_true rfl, Nat.le_of_ble_eq_true rfl⟩ (fun v hz hp => ?_)
              obtain ⟨rfl, ez⟩ := hp
              obtain rfl := ez.symm
              refine zz_istore C dX2_cuts_97 (by decide) ?_
              first | refine zz_aload_n C dX2_cuts_99 rfl ?_ | refine zz_aload_nN C dX2_cuts_99 rfl ?_
              refine zz_get C rfl (by first | assumption | exact zz_us | exact zz_lk1 (by assumption) (by assumption) | exact zz_lk3 (hd _ _ (by decide) (by decide) (by decide)) (by assumption) | exact zz_uf (by assumption) (by assumption) | (simp only [zz_up]; simp_all; done)) rfl in_X2 0 rfl q1230 (fun _ h => h) (by first | rfl | assumption) dX2_cuts_100 ?_
              refine zz_bipush (v := nI 9) C dX2_cuts_103 (by decide) ?_
              refine zz_dup2 C dX2_cuts_105 rfl rfl ?_
              refine zz_iald C (by first | assumption | exact zz_us | exact zz_lk1 (by assumption) (by assumption) | exact zz_lk3 (hd _ _ (by decide) (by decide) (by decide)) (by assumption) | exact zz_uf (by assumption) (by assumption) | (simp only [zz_up]; simp_all; done)) rfl (by omega) (by omega) dX2_cuts_106 ?_
              first | refine zz_aload_n C dX2_cuts_107 rfl ?_ | refine zz_aload_nN C dX2_cuts_107 rfl ?_
              refine zz_iload_n C dX2_cuts_108 rfl ?_
              refine zz_callV C zy_X2_weight (ct_X2_weight b rfl (by omega) hM) rfl q1313 (by first | assumption | exact zz_us | exact zz_lk1 (by assumption) (by assumption) | exact zz_lk3 (hd _ _ (by decide) (by decide) (by decide)) (by assumption) | exact zz_uf (by assumption) (by assumption) | (simp only [zz_up]; simp_all; done)) rfl rfl rfl rfl rfl rfl dX2_cuts_109 ⟨Nat.le_of_ble_eq_true rfl, Nat.le_of_ble_eq_true rfl⟩ (fun v hz hp => ?_)
              obtain ⟨rfl, ez⟩ := hp
              obtain rfl := ez.symm
              refine zz_iadd C dX2_cuts_112 ?_
              first | refine zz_iast2 C rfl (by omega) (by omega) dX2_cuts_113 ?_ | refine zz_iast C (by first | assumption | exact zz_us | exact zz_lk1 (by assumption) (by assumption) | exact zz_lk3 (hd _ _ (by decide) (by decide) (by decide)) (by assumption) | exact zz_uf (by assumption) (by assumption) | (simp only [zz_up]; simp_all; done)) rfl (by omega) (by omega) dX2_cuts_113 ?_
              first | refine zz_aload_n C dX2_cuts_114 rfl ?_ | refine zz_aload_nN C dX2_cuts_114 rfl ?_
              refine zz_iload_n C dX2_cuts_115 rfl ?_
              refine zz_iload_n C dX2_cuts_116 rfl ?_
              refine zz_iload_n C dX2_cuts_117 rfl ?_
              refine zz_callV C zy_X2_part (ct_X2_part (a := upd a 9 (a 9 + qa_w a b)) nb h5 (by omega) b rfl (by omega) k rfl (by omega) ⟨fs, zz_lk1 hx hs, hf0, zz_us⟩) rfl q1337 (by first | assumption | exact zz_us | exact zz_lk1 (by assumption) (by assumption) | exact zz_lk3 (hd _ _ (by decide) (by decide) (by decide)) (by assumption) | exact zz_uf (by assumption) (by assumption) | (simp only [zz_up]; simp_all; done)) rfl rfl rfl rfl rfl rfl dX2_cuts_118 ⟨Nat.le_of_ble_eq_true rfl, Nat.le_of_ble_eq_true rfl⟩ (fun v hz hp => ?_)
              obtain ⟨rfl, ez⟩ := hp
              obtain rfl := ez.symm
              rw [zz_upup]
              first | refine zz_aload_n C dX2_cuts_121 rfl ?_ | refine zz_aload_nN C dX2_cuts_121 rfl ?_
              refine zz_iload_n C dX2_cuts_122 rfl ?_
              refine zz_iload_n C dX2_cuts_123 rfl ?_
              refine zz_iload C dX2_cuts_124 rfl ?_
              refine zz_callV C zy_X2_part (ct_X2_part (a := qa_part (upd a 9 (a 9 + qa_w a b)) nb b k v2) (nb + 1) (by rw [qa_part_5]; exact e52) (by omega) b rfl (by omega) k rfl (by omega) ⟨fs, zz_lk1 hx hs, hf0, zz_us⟩) rfl q1337 (by first | assumption | exact zz_us | exact zz_lk1 (by assumption) (by assumption) | exact zz_lk3 (hd _ _ (by decide) (by decide) (by decide)) (by assumption) | exact zz_uf (by assumption) (by assumption) | (simp only [zz_up]; simp_all; done)) rfl rfl rfl rfl rfl rfl dX2_cuts_126 ⟨Nat.le_of_ble_eq_true rfl, Nat.le_of_ble_eq_true rfl⟩ (fun v hz hp => ?_)
              obtain ⟨rfl, ez⟩ := hp
              obtain rfl := ez.symm
              rw [zz_upup]
              first | refine zz_aload_n C dX2_cuts_129 rfl ?_ | refine zz_aload_nN C dX2_cuts_129 rfl ?_
              refine zz_get C rfl (by first | assumption | exact zz_us | exact zz_lk1 (by assumption) (by assumption) | exact zz_lk3 (hd _ _ (by decide) (by decide) (by decide)) (by assumption) | exact zz_uf (by assumption) (by assumption) | (simp only [zz_up]; simp_all; done)) rfl in_X2 0 rfl q1230 (fun _ h => h) (by first | rfl | assumption) dX2_cuts_130 ?_
              refine zz_iload_n C dX2_cuts_133 rfl ?_
              refine zz_iconst (v := nI 4) C dX2_cuts_134 (by decide) ?_
              refine zz_callS C zy_X2_at (ct_X2_at b 4 rfl rfl) rfl q1310 rfl rfl rfl rfl rfl dX2_cuts_135 ⟨Nat.le_of_ble_eq_true rfl, Nat.le_of_ble_eq_true rfl⟩ (fun v hz hp => ?_)
              obtain ⟨rfl, ez⟩ := hp
              obtain rfl := ez.symm
              refine zz_iconst (v := 4) C dX2_cuts_138 (by decide) ?_
              first | refine zz_iast2 C rfl (by omega) (by omega) dX2_cuts_139 ?_ | refine zz_iast C (by first | assumption | exact zz_us | exact zz_lk1 (by assumption) (by assumption) | exact zz_lk3 (hd _ _ (by decide) (by decide) (by decide)) (by assumption) | exact zz_uf (by assumption) (by assumption) | (simp only [zz_up]; simp_all; done)) rfl (by omega) (by omega) dX2_cuts_139 ?_
              refine zz_iload C dX2_cuts_140 rfl ?_
              refine zz_istore C dX2_cuts_142 (by decide) ?_
              have L144 : ∀ (n : Nat) (i : Nat), i ≤ 2 → 3 ≤ i + n → zz_V D b0 8 p l e ({ frames := 4, cells := 0, slots := 0, locals := 85 } : Jvm.Room) s m ([.ref x, .int (nI b), .int (nI k), .int v2] : List Value).toArray below meth c (MQ below (zz_Q D b0 (fun v h' => v = some (.int (op_cuts a (nI b) (nI k) v2).1) ∧ h' = zz_up h s0 (.inl (D.1 100, 324, .inl (op_cuts a (nI b) (nI k) v2).2)))) ([.ref x, .int (nI b), .int (nI k), .int v2] : List Value).toArray s 0 0 (fun q => b0 ≤ q)) 0 0 (zz_up h s0 (.inl (D.1 100, 324, .inl (qa_rf (qa_cut0 a nb b k v2 (qa_rest a b k v2)) (decide (a (12 + 10 * b + 4) = 1)) nb i)))) [(0, .ref x), (5, .int (a 5)), (6, .int (zz_b (decide (a (12 + 10 * b + 4) = 1)))), (7, .int (nI (nb + i)))] 144 [] := by
                intro n
                induction n with
                | zero =>
                  intro i h1 h2
                  exact absurd h2 (by omega)
                | succ n ih =>
                  intro i h1 h2
                  refine zz_iload C dX2_cuts_144 rfl ?_
                  refine zz_iload C dX2_cuts_146 rfl ?_
                  refine zz_iconst (v := 2) C dX2_cuts_148 (by decide) ?_
                  refine zz_iadd C dX2_cuts_149 ?_
                  refine zz_icmp_ge (tgt := 188) C dX2_cuts_150 (by decide) (fun c150 => ?_) (fun c150 => ?_)
                  · have hi2 : 2 ≤ i := by
                      have h9 := (nI_leI (a := nb + 2) (b := nb + i) (by omega) (by omega)).mp (by have h8 := c150; rw [h5] at h8; rw [← nI_add]; exact h8)
                      omega
                    obtain rfl : i = 2 := by omega
                    refine zz_iload C dX2_cuts_188 rfl ?_
                    refine zz_iret C dX2_cuts_190 rfl rfl ?_
                    refine ⟨?_, ?_⟩
                    · first | (simp_all [op_cuts, qa_rest, -Int32.not_le, -Int32.not_lt]; done) | (simp_all [op_cuts, qa_rest, -Int32.not_le, -Int32.not_lt]; rfl)
                    · first | (simp_all [op_cuts, qa_rest, -Int32.not_le, -Int32.not_lt, zz_upsame]; done) | (simp_all [op_cuts, qa_rest, -Int32.not_le, -Int32.not_lt, zz_upsame]; rfl)
                  · have hi2 : i < 2 := Nat.not_le.mp (fun q => c150 (by rw [h5]; exact (nI_add nb 2).symm ▸ nI_le (a := nb + 2) (b := nb + i) (by omega) (by omega)))
                    first | refine zz_aload_n C dX2_cuts_153 rfl ?_ | refine zz_aload_nN C dX2_cuts_153 rfl ?_
                    refine zz_get C rfl (by first | assumption | exact zz_us | exact zz_lk1 (by assumption) (by assumption) | exact zz_lk3 (hd _ _ (by decide) (by decide) (by decide)) (by assumption) | exact zz_uf (by assumption) (by assumption) | (simp only [zz_up]; simp_all; done)) rfl in_X2 0 rfl q1230 (fun _ h => h) (by first | rfl | assumption) dX2_cuts_154 ?_
                    refine zz_iload C dX2_cuts_157 rfl ?_
                    refine zz_iconst (v := nI 4) C dX2_cuts_159 (by decide) ?_
                    refine zz_callS C zy_X2_at (ct_X2_at (nb + i) 4 rfl rfl) rfl q1310 rfl rfl rfl rfl rfl dX2_cuts_160 ⟨Nat.le_of_ble_eq_true rfl, Nat.le_of_ble_eq_true rfl⟩ (fun v hz hp => ?_)
                    obtain ⟨rfl, ez⟩ := hp
                    obtain rfl := ez.symm
                    refine zz_joinI (pcJ := 181) (if (decide (a (12 + 10 * b + 4) = 1) && decide (qa_cnt (fun b_1 => decide (qa_rf (qa_cut0 a nb b k v2 (qa_rest a b k v2)) (decide (a (12 + 10 * b + 4) = 1)) nb i (12 + 10 * b_1 + 4) = 1)) (nb + 2) < 4)) = true then 1 else 0) ?_ ?_
                    · rintro z181 rfl
                      first | refine zz_iast2 C rfl (by omega) (by omega) dX2_cuts_181 ?_ | refine zz_iast C (by first | assumption | exact zz_us | exact zz_lk1 (by assumption) (by assumption) | exact zz_lk3 (hd _ _ (by decide) (by decide) (by decide)) (by assumption) | exact zz_uf (by assumption) (by assumption) | (simp only [zz_up]; simp_all; done)) rfl (by omega) (by omega) dX2_cuts_181 ?_
                      refine zz_iinc C dX2_cuts_182 rfl (by first | exact nI_1 _ | exact (rfl : _ + Int32.ofInt 1 = _ + 1)) (by decide) ?_
                      refine zz_goto (tgt := 144) C dX2_cuts_185 (by decide) ?_
                      exact zz_loc2 (ih (i + 1) (by omega) (by omega)) ⟨rfl, rfl, rfl, rfl, trivial⟩
                    · intro J181
                      refine zz_iload C dX2_cuts_163 rfl ?_
                      first | refine zz_ifb_eq (tgt := 180) C dX2_cuts_165 (by decide) (fun c165 => ?_) (fun c165 => ?_) | refine zz_if_eq (tgt := 180) C dX2_cuts_165 (by decide) (fun c165 => ?_) (fun c165 => ?_)
                      · refine zz_iconst (v := 0) C dX2_cuts_180 (by decide) ?_
                        exact J181 _ (by
                              first
                              | (simp only [*]; rfl)
                              | (have h8 : qa_cnt (fun b_1 => decide (qa_rf (qa_cut0 a nb b k v2 (qa_rest a b k v2)) (decide (a (12 + 10 * b + 4) = 1)) nb i (12 + 10 * b_1 + 4) = 1)) (nb + 2) ≤ nb + 2 := qa_cnt_le _ _
                                 first
                                 | (have h9 := (nI_leI (a := 4) (by omega) (by omega)).mp c173; rw [if_neg (by simp; intro _; omega)])
                                 | (have h9 : ¬ 4 ≤ qa_cnt (fun b_1 => decide (qa_rf (qa_cut0 a nb b k v2 (qa_rest a b k v2)) (decide (a (12 + 10 * b + 4) = 1)) nb i (12 + 10 * b_1 + 4) = 1)) (nb + 2) := fun q => c173 (nI_le (a := 4) q (by omega))
                                    rw [if_pos (by simp_all)])
                                 | (simp_all; done)))
                      · first | refine zz_aload_n C dX2_cuts_168 rfl ?_ | refine zz_aload_nN C dX2_cuts_168 rfl ?_
                        refine zz_callV C zy_X2_underRoof (ct_X2_underRoof (a := qa_rf (qa_cut0 a nb b k v2 (qa_rest a b k v2)) (decide (a (12 + 10 * b + 4) = 1)) nb i) (nb + 2) (by rw [qa_rf_o (by omega), qa_cut0_5, h5]; exact (nI_1 nb) ▸ nI_1 (nb + 1)) (by omega) ⟨fs, zz_lk1 hx hs, hf0, zz_us⟩) rfl q1341 (by first | assumption | exact zz_us | exact zz_lk1 (by assumption) (by assumption) | exact zz_lk3 (hd _ _ (by decide) (by decide) (by decide)) (by assumption) | exact zz_uf (by assumption) (by assumption) | (simp only [zz_up]; simp_all; done)) rfl rfl rfl rfl rfl rfl dX2_cuts_169 ⟨Nat.le_of_ble_eq_true rfl, Nat.le_of_ble_eq_true rfl⟩ (fun v hz hp => ?_)
                        obtain ⟨rfl, ez⟩ := hp
                        obtain rfl := ez.symm
                        refine zz_iconst (v := 4) C dX2_cuts_172 (by decide) ?_
                        refine zz_icmp_ge (tgt := 180) C dX2_cuts_173 (by decide) (fun c173 => ?_) (fun c173 => ?_)
                        · refine zz_iconst (v := 0) C dX2_cuts_180 (by decide) ?_
                          exact J181 _ (by
                                first
                                | (simp only [*]; rfl)
                                | (have h8 : qa_cnt (fun b_1 => decide (qa_rf (qa_cut0 a nb b k v2 (qa_rest a b k v2)) (decide (a (12 + 10 * b + 4) = 1)) nb i (12 + 10 * b_1 + 4) = 1)) (nb + 2) ≤ nb + 2 := qa_cnt_le _ _
                                   first
                                   | (have h9 := (nI_leI (a := 4) (by omega) (by omega)).mp c173; rw [if_neg (by simp; intro _; omega)])
                                   | (have h9 : ¬ 4 ≤ qa_cnt (fun b_1 => decide (qa_rf (qa_cut0 a nb b k v2 (qa_rest a b k v2)) (decide (a (12 + 10 * b + 4) = 1)) nb i (12 + 10 * b_1 + 4) = 1)) (nb + 2) := fun q => c173 (nI_le (a := 4) q (by omega))
                                      rw [if_pos (by simp_all)])
                                   | (simp_all; done)))
                        · refine zz_iconst (v := 1) C dX2_cuts_176 (by decide) ?_
                          refine zz_goto (tgt := 181) C dX2_cuts_177 (by decide) ?_
                          exact J181 _ (by
                                first
                                | (simp only [*]; rfl)
                                | (have h8 : qa_cnt (fun b_1 => decide (qa_rf (qa_cut0 a nb b k v2 (qa_rest a b k v2)) (decide (a (12 + 10 * b + 4) = 1)) nb i (12 + 10 * b_1 + 4) = 1)) (nb + 2) ≤ nb + 2 := qa_cnt_le _ _
                                   first
                                   | (have h9 := (nI_leI (a := 4) (by omega) (by omega)).mp c173; rw [if_neg (by simp; intro _; omega)])
                                   | (have h9 : ¬ 4 ≤ qa_cnt (fun b_1 => decide (qa_rf (qa_cut0 a nb b k v2 (qa_rest a b k v2)) (decide (a (12 + 10 * b + 4) = 1)) nb i (12 + 10 * b_1 + 4) = 1)) (nb + 2) := fun q => c173 (nI_le (a := 4) q (by omega))
                                      rw [if_pos (by simp_all)])
                                   | (simp_all; done)))
              exact zz_loc2 (L144 3 0 (by omega) (by omega)) ⟨rfl, rfl, rfl, (by rw [h5]; rfl), trivial⟩
            · refine zz_bipush (v := (-4)) C dX2_cuts_80 (by decide) ?_
              refine zz_iret C dX2_cuts_82 rfl rfl ?_
              refine ⟨?_, ?_⟩
              · first | (simp_all [op_cuts, qa_rest, -Int32.not_le, -Int32.not_lt]; done) | (simp_all [op_cuts, qa_rest, -Int32.not_le, -Int32.not_lt]; rfl)
              · first | (simp_all [op_cuts, qa_rest, -Int32.not_le, -Int32.not_lt, zz_upsame]; done) | (simp_all [op_cuts, qa_rest, -Int32.not_le, -Int32.not_lt, zz_upsame]; rfl)
          · refine zz_bipush (v := (-5)) C dX2_cuts_64 (by decide) ?_
            refine zz_iret C dX2_cuts_66 rfl rfl ?_
            refine ⟨?_, ?_⟩
            · first | (simp_all [op_cuts, qa_rest, -Int32.not_le, -Int32.not_lt]; done) | (simp_all [op_cuts, qa_rest, -Int32.not_le, -Int32.not_lt]; rfl)
            · first | (simp_all [op_cuts, qa_rest, -Int32.not_le, -Int32.not_lt, zz_upsame]; done) | (simp_all [op_cuts, qa_rest, -Int32.not_le, -Int32.not_lt, zz_upsame]; rfl)
      · refine zz_bipush (v := (-2)) C dX2_cuts_26 (by decide) ?_
        refine zz_iret C dX2_cuts_28 rfl rfl ?_
        refine ⟨?_, ?_⟩
        · first | (simp_all [op_cuts, qa_rest, -Int32.not_le, -Int32.not_lt]; done) | (simp_all [op_cuts, qa_rest, -Int32.not_le, -Int32.not_lt]; rfl)
        · first | (simp_all [op_cuts, qa_rest, -Int32.not_le, -Int32.not_lt, zz_upsame]; done) | (simp_all [op_cuts, qa_rest, -Int32.not_le, -Int32.not_lt, zz_upsame]; rfl)
  · refine zz_iconst (v := (-1)) C dX2_cuts_8 (by decide) ?_
    refine zz_iret C dX2_cuts_9 rfl rfl ?_
    refine ⟨?_, ?_⟩
    · first | (simp_all [op_cuts, qa_rest, -Int32.not_le, -Int32.not_lt]; done) | (simp_all [op_cuts, qa_rest, -Int32.not_le, -Int32.not_lt]; rfl)
    · first | (simp_all [op_cuts, qa_rest, -Int32.not_le, -Int32.not_lt, zz_upsame]; done) | (simp_all [op_cuts, qa_rest, -Int32.not_le, -Int32.not_lt, zz_upsame]; rfl)

