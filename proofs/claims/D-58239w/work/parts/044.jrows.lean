/-! the library's natives over the abstract heap -/
/-- an object that a table of objects may hold -/
def zz_any (D : va_G) (h : zz_H) (a : Nat) : Prop := (∃ (ci : Nat) (vs : List Value) (r : vw_C), h a = some (.inr (ci, vs)) ∧ zz_cl[ci]? = some r ∧ (r.1, "java/lang/Object") ∈ zz_nC) ∨ ∃ (n : Nat) (g : Nat → Int32), h a = some (.inl (D.1 100, n, .inl g))
section ZZ
variable {D : va_G} {b0 : Nat} {p : Program} {l : Launch} {e : Env} {R : Room} {s : State} {m : MethodId} {args : Array Value} {below : List Frame} {meth : Method} {c : Code} {Q : State → Prop} {cs ss : Nat} {h : zz_H} {lo : List (Nat × Value)} {y : MethodName} {cc : ByteArray} {nL : Nat} {ret : Option FieldType} {pc : Nat} {st : List Value}
theorem zz_ml (C : zz_C D b0 y cc nL ret p s m args meth c) {la : Array Slot} (hl : lv_has la nL lo) : c.maxLocals = la.size := by rw [C.2.2.1]; exact hl.1.symm
theorem zz_Cz (C : zz_C D b0 y cc nL ret p s m args meth c) : zz_Z D b0 s := C.2.2.2.2.2.2.2.2.2.2.2
theorem zz_mi (C : zz_C D b0 y cc nL ret p s m args meth c) : va_Mi "[Ljava/lang/Object;" (D.2 1000 6) s := by
  obtain ⟨-, -, -, -, -, -, -, -, -, -, -, -, g2, -⟩ := zz_Cz C
  exact g2
theorem zz_Fx (C : zz_C D b0 y cc nL ret p s m args meth c) : va_X (D.2 1000 2) 4 zz_gF s s.heap ∧ va_O "[I" (D.2 1000 2) (fun q => b0 ≤ q) s s.heap := by
  obtain ⟨-, -, ⟨-, -, c3⟩, -, -, -, -, -, -, -, -, g1, -, -⟩ := zz_Cz C
  exact ⟨g1, c3⟩
theorem zz_sFIRST (C : zz_C D b0 y cc nL ret p s m args meth c) : va_Z "QuarryOrders" "FIRST" "[I" (.ref (D.2 1000 2)) (fun q => b0 ≤ q) s s.heap := (zz_Cz C).2.2.1.1
theorem zz_sLEAST (C : zz_C D b0 y cc nL ret p s m args meth c) : va_Z "QuarryOrders" "LEAST" "[I" (.ref (D.2 1000 0)) (fun q => b0 ≤ q) s s.heap := (zz_Cz C).1.1
theorem zz_sMOST (C : zz_C D b0 y cc nL ret p s m args meth c) : va_Z "QuarryOrders" "MOST" "[I" (.ref (D.2 1000 1)) (fun q => b0 ≤ q) s s.heap := (zz_Cz C).2.1.1
theorem zz_tLEAST (C : zz_C D b0 y cc nL ret p s m args meth c) : va_T .int (D.2 1000 0) 4 zz_fL (fun q => b0 ≤ q) s s.heap := (zz_Cz C).1.2.1
theorem zz_tMOST (C : zz_C D b0 y cc nL ret p s m args meth c) : va_T .int (D.2 1000 1) 4 zz_fM (fun q => b0 ≤ q) s s.heap := (zz_Cz C).2.1.2.1
theorem zz_sDEFAULTCAPACITY_EMPTY_ELEMENTDATA (C : zz_C D b0 y cc nL ret p s m args meth c) : va_Z "java/util/ArrayList" "DEFAULTCAPACITY_EMPTY_ELEMENTDATA" "[Ljava/lang/Object;" (.ref (D.2 1000 3)) (fun q => b0 ≤ q) s s.heap := (zz_Cz C).2.2.2.1
theorem zz_tDEF (C : zz_C D b0 y cc nL ret p s m args meth c) : va_T (.object "java/lang/Object") (D.2 1000 3) 0 (fun _ => .null) (fun q => b0 ≤ q) s s.heap := (zz_Cz C).2.2.2.2.1
theorem zz_sCOMPACT_STRINGS (C : zz_C D b0 y cc nL ret p s m args meth c) : va_Z "java/lang/String" "COMPACT_STRINGS" "Z" (.int 1) (fun q => b0 ≤ q) s s.heap := (zz_Cz C).2.2.2.2.2.1
theorem zz_sSIOOBE_FORMATTER (C : zz_C D b0 y cc nL ret p s m args meth c) : va_Z "jdk/internal/util/Preconditions" "SIOOBE_FORMATTER" "Ljava/util/function/BiFunction;" (.ref (D.2 1000 7)) (fun q => b0 ≤ q) s s.heap := by
  obtain ⟨-, -, -, -, -, -, -, -, -, -, -, -, -, g3⟩ := zz_Cz C
  exact g3
theorem zz_mmax (C : zz_C D b0 y cc nL ret p s m args meth c) {own : String} {index : Nat} {x z : Int32} (ho : y.cls = own) (hlink : Cond.methodLink own index Lib.Math.max.name ∈ lw_all) (hdg : decode cc pc = .ok (.invokestatic index, 3)) (hW : Nat.ble ((st.map fun v => v.category).sum) 8 = true) (hf : Nat.ble 1 R.frames = true) (hlo : Nat.ble 60 R.locals = true) (hc : cs ≤ R.cells) (hs : ss ≤ R.slots) (kk : zz_V D b0 nL p l e R s m args below meth c Q cs ss h lo (pc + 3) (.int (if x < z then z else x) :: st)) : zz_V D b0 nL p l e R s m args below meth c Q cs ss h lo pc (.int z :: .int x :: st) := fun H locs la hP hS hl => by
  have hts := C.2.2.2.2.1
  have hw := Nat.le_of_ble_eq_true hW
  have hl2 := Nat.le_of_ble_eq_true hlo
  exact va_mmax C.1 C.2.1 (zz_ml C hl) (zz_own C ho) (hts _ hlink) (hts _ q462) (hts _ q105) (hts _ q463) (Nat.le_of_ble_eq_true hf) (by omega) hc hs hdg (kk H locs la hP hS hl)
theorem zz_mmin (C : zz_C D b0 y cc nL ret p s m args meth c) {own : String} {index : Nat} {x z : Int32} (ho : y.cls = own) (hlink : Cond.methodLink own index Lib.Math.min.name ∈ lw_all) (hdg : decode cc pc = .ok (.invokestatic index, 3)) (hW : Nat.ble ((st.map fun v => v.category).sum) 8 = true) (hf : Nat.ble 1 R.frames = true) (hlo : Nat.ble 60 R.locals = true) (hc : cs ≤ R.cells) (hs : ss ≤ R.slots) (kk : zz_V D b0 nL p l e R s m args below meth c Q cs ss h lo (pc + 3) (.int (if z < x then z else x) :: st)) : zz_V D b0 nL p l e R s m args below meth c Q cs ss h lo pc (.int z :: .int x :: st) := fun H locs la hP hS hl => by
  have hts := C.2.2.2.2.1
  have hw := Nat.le_of_ble_eq_true hW
  have hl2 := Nat.le_of_ble_eq_true hlo
  exact va_mmin C.1 C.2.1 (zz_ml C hl) (zz_own C ho) (hts _ hlink) (hts _ q492) (hts _ q105) (hts _ q493) (Nat.le_of_ble_eq_true hf) (by omega) hc hs hdg (kk H locs la hP hS hl)
theorem zz_acfw : nativeFrameWords "java/lang/System" "arraycopy" 5 ≤ 20 := by decide
theorem zz_copyI (C : zz_C D b0 y cc nL ret p s m args meth c) {own : String} {index : Nat} (ho : y.cls = own) (hlink : Cond.methodLink own index arraycopyName ∈ lw_all) (hini : Cond.initialized "java/lang/System" ∈ lw_all) {a0 a1 n0 n1 : Nat} {f g : Nat → Int32} (h0 : h a0 = some (.inl (D.1 100, n0, .inl f))) (h1 : h a1 = some (.inl (D.1 100, n1, .inl g))) {sp dp n : Int32} {i j k : Nat} (e1 : sp = nI i) (e2 : dp = nI j) (e3 : n = nI k) (b1 : i + k ≤ n0) (b2 : j + k ≤ n1) (m0 : n0 ≤ 1000000) (m1 : n1 ≤ 1000000) (hW : Nat.ble ((st.map fun v => v.category).sum) 8 = true) (hf : Nat.ble 1 R.frames = true) (hlo : Nat.ble 60 R.locals = true) (hdg : decode cc pc = .ok (.invokestatic index, 3)) (kk : zz_V D b0 nL p l e R s m args below meth c Q cs ss (zz_up h a1 (.inl (D.1 100, n1, .inl (va_cpy f g i j k)))) lo (pc + 3) st) : zz_V D b0 nL p l e R s m args below meth c Q cs ss h lo pc (.int n :: .int dp :: .ref a1 :: .int sp :: .ref a0 :: st) := fun H locs la hP hS hl => by
  have hts := C.2.2.2.2.1
  have hw := Nat.le_of_ble_eq_true hW
  have hl2 := Nat.le_of_ble_eq_true hlo
  have haf := zz_acfw
  subst e1 e2 e3
  obtain ⟨q0, hq0⟩ := zz_all_get h0 (zz_fresh hP h0)
  obtain ⟨q1, hq1⟩ := zz_all_get h1 (zz_fresh hP h1)
  have ei : (nI i).toNatClampNeg = i := nI_clamp (by omega)
  have ej : (nI j).toNatClampNeg = j := nI_clamp (by omega)
  have ek : (nI k).toNatClampNeg = k := nI_clamp (by omega)
  refine va_copyi C.1 C.2.1 (zz_ml C hl) (zz_own C ho) (hts _ hlink) (hts _ q325) (hts _ q324) (hts _ hini) C.2.2.2.2.2.2.2.2.2.1 (zz_allP hP) (zz_allD hP) hS q0 q1 0 0 hq0 hq1 rfl rfl rfl (nI_pos (by omega)) (nI_pos (by omega)) (nI_pos (by omega)) (by rw [ei, ek]; exact b1) (by rw [ej, ek]; exact b2) (fun _ _ => rfl) (Nat.le_of_ble_eq_true hf) (by omega) hdg (fun H1 locs1 hP1 _ hS1 => ?_)
  rw [ei, ej, ek] at hP1
  exact kk H1 locs1 la (zz_allset hP hq1 hP1) hS1 hl
theorem zz_copyB (C : zz_C D b0 y cc nL ret p s m args meth c) {own : String} {index : Nat} (ho : y.cls = own) (hlink : Cond.methodLink own index arraycopyName ∈ lw_all) (hini : Cond.initialized "java/lang/System" ∈ lw_all) {a0 a1 n0 n1 : Nat} {f g : Nat → Int32} (h0 : h a0 = some (.inl (D.1 102, n0, .inl f))) (h1 : h a1 = some (.inl (D.1 102, n1, .inl g))) (hfit : ∀ i : Nat, fits .byte (.int (f i)) = true) {sp dp n : Int32} {i j k : Nat} (e1 : sp = nI i) (e2 : dp = nI j) (e3 : n = nI k) (b1 : i + k ≤ n0) (b2 : j + k ≤ n1) (m0 : n0 ≤ 1000000) (m1 : n1 ≤ 1000000) (hW : Nat.ble ((st.map fun v => v.category).sum) 8 = true) (hf : Nat.ble 1 R.frames = true) (hlo : Nat.ble 60 R.locals = true) (hdg : decode cc pc = .ok (.invokestatic index, 3)) (kk : zz_V D b0 nL p l e R s m args below meth c Q cs ss (zz_up h a1 (.inl (D.1 102, n1, .inl (va_cpy f g i j k)))) lo (pc + 3) st) : zz_V D b0 nL p l e R s m args below meth c Q cs ss h lo pc (.int n :: .int dp :: .ref a1 :: .int sp :: .ref a0 :: st) := fun H locs la hP hS hl => by
  have hts := C.2.2.2.2.1
  have hw := Nat.le_of_ble_eq_true hW
  have hl2 := Nat.le_of_ble_eq_true hlo
  have haf := zz_acfw
  subst e1 e2 e3
  obtain ⟨q0, hq0⟩ := zz_all_get h0 (zz_fresh hP h0)
  obtain ⟨q1, hq1⟩ := zz_all_get h1 (zz_fresh hP h1)
  have ei : (nI i).toNatClampNeg = i := nI_clamp (by omega)
  have ej : (nI j).toNatClampNeg = j := nI_clamp (by omega)
  have ek : (nI k).toNatClampNeg = k := nI_clamp (by omega)
  refine va_copyi C.1 C.2.1 (zz_ml C hl) (zz_own C ho) (hts _ hlink) (hts _ q325) (hts _ q324) (hts _ hini) C.2.2.2.2.2.2.2.2.2.1 (zz_allP hP) (zz_allD hP) hS q0 q1 2 2 hq0 hq1 rfl rfl rfl (nI_pos (by omega)) (nI_pos (by omega)) (nI_pos (by omega)) (by rw [ei, ek]; exact b1) (by rw [ej, ek]; exact b2) (fun i _ => hfit _) (Nat.le_of_ble_eq_true hf) (by omega) hdg (fun H1 locs1 hP1 _ hS1 => ?_)
  rw [ei, ej, ek] at hP1
  exact kk H1 locs1 la (zz_allset hP hq1 hP1) hS1 hl
theorem zz_anyO (C : zz_C D b0 y cc nL ret p s m args meth c) {H : Heap} {a : Nat} (hP : zz_P D b0 h H) (ha : zz_any D h a) : va_Any "java/lang/Object" s H a := by
  rcases ha with ⟨ci, vs, r, hh, hc, hm⟩ | ⟨n, g, hh⟩
  · obtain ⟨q0, hq⟩ := zz_all_get hh (zz_fresh hP hh)
    obtain ⟨c0, t0, f1, f2, f3⟩ := Cond.castable_spec (va_Nw.use (A := args) rfl (C.2.2.2.2.2.2.2.2.2.2.1.2.2.1 _ hm))
    exact va_rAny C.2.2.2.2.2.2.2.2.2.1 (zz_allP hP) hq hc (fun comp c1 h1 h2 => by
      cases h1.symm.trans f2
      cases h2.symm.trans f1
      exact f3)
  · exact zz_anyA (k0 := 0) C hP hh rfl (zz_nmI C) (by decide +kernel)
theorem zz_copyO (C : zz_C D b0 y cc nL ret p s m args meth c) {own : String} {index : Nat} (ho : y.cls = own) (hlink : Cond.methodLink own index arraycopyName ∈ lw_all) (hini : Cond.initialized "java/lang/System" ∈ lw_all) {a0 a1 n0 n1 : Nat} {f g : Nat → Option Nat} (h0 : h a0 = some (.inl (D.1 103, n0, .inr (.inr (.inr (.inr f)))))) (h1 : h a1 = some (.inl (D.1 103, n1, .inr (.inr (.inr (.inr g)))))) {sp dp n : Int32} {i j k : Nat} (e1 : sp = nI i) (e2 : dp = nI j) (e3 : n = nI k) (b1 : i + k ≤ n0) (b2 : j + k ≤ n1) (m0 : n0 ≤ 1000000) (m1 : n1 ≤ 1000000) (hel : ∀ t : Nat, t < k → ∀ x : Nat, f (i + t) = some x → zz_any D h x) (hW : Nat.ble ((st.map fun v => v.category).sum) 8 = true) (hf : Nat.ble 1 R.frames = true) (hlo : Nat.ble 60 R.locals = true) (hdg : decode cc pc = .ok (.invokestatic index, 3)) (kk : zz_V D b0 nL p l e R s m args below meth c Q cs ss (zz_up h a1 (.inl (D.1 103, n1, .inr (.inr (.inr (.inr (va_cpy f g i j k))))))) lo (pc + 3) st) : zz_V D b0 nL p l e R s m args below meth c Q cs ss h lo pc (.int n :: .int dp :: .ref a1 :: .int sp :: .ref a0 :: st) := fun H locs la hP hS hl => by
  have hts := C.2.2.2.2.1
  have hw := Nat.le_of_ble_eq_true hW
  have hl2 := Nat.le_of_ble_eq_true hlo
  have haf := zz_acfw
  subst e1 e2 e3
  obtain ⟨q0, hq0⟩ := zz_all_get h0 (zz_fresh hP h0)
  obtain ⟨q1, hq1⟩ := zz_all_get h1 (zz_fresh hP h1)
  have ei : (nI i).toNatClampNeg = i := nI_clamp (by omega)
  have ej : (nI j).toNatClampNeg = j := nI_clamp (by omega)
  have ek : (nI k).toNatClampNeg = k := nI_clamp (by omega)
  refine va_copyM C.1 C.2.1 (zz_ml C hl) (zz_own C ho) (hts _ hlink) (hts _ q325) (hts _ q324) (hts _ hini) C.2.2.2.2.2.2.2.2.2.1 (zz_allP hP) (zz_allD hP) hS q0 q1 3 3 hq0 hq1 rfl rfl (nI_pos (by omega)) (nI_pos (by omega)) (nI_pos (by omega)) (by rw [ei, ek]; exact b1) (by rw [ej, ek]; exact b2) (fun t ht x hx => zz_anyO C hP (hel t (by rw [ek] at ht; exact ht) x (by rw [ei] at hx; exact hx))) (Nat.le_of_ble_eq_true hf) (by omega) hdg (fun H1 locs1 hP1 _ hS1 => ?_)
  rw [ei, ej, ek] at hP1
  exact kk H1 locs1 la (zz_allset hP hq1 hP1) hS1 hl
theorem zz_acmp_eq (C : zz_C D b0 y cc nL ret p s m args meth c) {x z : Nat} {off : Int} {tgt : Nat} (hdg : decode cc pc = .ok (.if_acmp .eq off, 3)) (ht : (pc : Int) + off = (tgt : Int)) (kt : x = z → zz_V D b0 nL p l e R s m args below meth c Q cs ss h lo tgt st) (kf : ¬ x = z → zz_V D b0 nL p l e R s m args below meth c Q cs ss h lo (pc + 3) st) : zz_V D b0 nL p l e R s m args below meth c Q cs ss h lo pc (.ref z :: .ref x :: st) := fun H locs la hP hS hl =>
  lv_acmp_eq (rx := some x) (ry := some z) C.1 C.2.1 hdg ht (fun q => kt (Option.some.inj q) H locs la hP hS hl) (fun q => kf (fun e => q (congrArg some e)) H locs la hP hS hl)
theorem zz_acmp_ne (C : zz_C D b0 y cc nL ret p s m args meth c) {x z : Nat} {off : Int} {tgt : Nat} (hdg : decode cc pc = .ok (.if_acmp .ne off, 3)) (ht : (pc : Int) + off = (tgt : Int)) (kt : ¬ x = z → zz_V D b0 nL p l e R s m args below meth c Q cs ss h lo tgt st) (kf : x = z → zz_V D b0 nL p l e R s m args below meth c Q cs ss h lo (pc + 3) st) : zz_V D b0 nL p l e R s m args below meth c Q cs ss h lo pc (.ref z :: .ref x :: st) := fun H locs la hP hS hl =>
  lv_acmp_ne (rx := some x) (ry := some z) C.1 C.2.1 hdg ht (fun q => kt (fun e => q (congrArg some e)) H locs la hP hS hl) (fun q => kf (Option.some.inj q) H locs la hP hS hl)
/-- less is carried on -/
theorem zz_wk {h' : zz_H} (hm : ∀ (x : Nat) (e : va_E), h' x = some e → h x = some e) (k : zz_V D b0 nL p l e R s m args below meth c Q cs ss h' lo pc st) : zz_V D b0 nL p l e R s m args below meth c Q cs ss h lo pc st := fun H locs la hP hS hl => k H locs la (hP.mono hm) hS hl
theorem zz_cellI {cA : ClassId} {n : Nat} {f : Nat → Int32} {i : Nat} {v : Value} (hv : (vp_cell cA (n, .inl f)).slots[i]? = some v) : ∃ z : Int32, v = .int z := by
  have hi : i < (vp_cell cA (n, .inl f)).slots.size := (Array.getElem?_eq_some_iff.mp hv).1
  have hsz : (vp_cell cA (n, .inl f)).slots.size = n := arrV_size _ _ _
  rw [hsz] at hi
  have : (vp_cell cA (n, .inl f)).slots[i]? = some (.int (f i)) := arrV_read _ _ hi
  rw [this] at hv
  exact ⟨f i, (Option.some.inj hv).symm⟩
theorem zz_cloneI (C : zz_C D b0 y cc nL ret p s m args meth c) {own : String} {index : Nat} (ho : y.cls = own) (hlink : Cond.methodLink own index ⟨"[I", "clone", "()Ljava/lang/Object;"⟩ ∈ lw_all) {a n : Nat} {f : Nat → Int32} (hh : h a = some (.inl (D.1 100, n, .inl f))) (hW : Nat.ble ((st.map fun v => v.category).sum) 8 = true) (hf : Nat.ble 1 R.frames = true) (hlo : Nat.ble 60 R.locals = true) (hc : Nat.ble (cs + 1) R.cells = true) (hs : ss + n ≤ R.slots) (hdg : decode cc pc = .ok (.invokevirtual index, 3)) (kk : ∀ o : Nat, h o = none → b0 ≤ o → zz_V D b0 nL p l e R s m args below meth c Q (cs + 1) (ss + n) (zz_up h o (.inl (D.1 100, n, .inl f))) lo (pc + 3) (.ref o :: st)) : zz_V D b0 nL p l e R s m args below meth c Q cs ss h lo pc (.ref a :: st) := fun H locs la hP hS hl => by
  have hts := C.2.2.2.2.1
  have hw := Nat.le_of_ble_eq_true hW
  have hl2 := Nat.le_of_ble_eq_true hlo
  obtain ⟨q0, hq0⟩ := zz_all_get hh (zz_fresh hP hh)
  refine va_clone C.1 C.2.1 (zz_ml C hl) (zz_own C ho) (hts _ hlink) (hts _ q137) (hts _ q138) (hts _ q139) (hts _ q140) (C.2.2.2.2.2.2.2.2.2.2.1.2.2.1 ("[I", "java/lang/Cloneable") (by decide +kernel)) C.2.2.2.2.2.2.2.2.2.1 (zz_allP hP) (zz_allD hP) hS (fun q hq => Nat.le_trans C.2.2.2.2.2.2.2.2.1 hq) q0 0 hq0 rfl (zz_nmI C) (fun i v hv => by obtain ⟨z, rfl⟩ := zz_cellI hv; rfl) (Nat.le_of_ble_eq_true hf) (by omega) (Nat.le_of_ble_eq_true hc) hs hdg (fun q H1 hK1 hP1 hD1 hS1 => ?_)
  obtain ⟨g1, g2, g3⟩ := zz_allpush hP hP1 hD1
  exact kk q g1 g2 H1 locs la g3 hS1 hl
/-- the mirror of the tables' class -/
theorem zz_getC (C : zz_C D b0 y cc nL ret p s m args meth c) {own : String} {index : Nat} (ho : y.cls = own) (hlink : Cond.methodLink own index ⟨"java/lang/Object", "getClass", "()Ljava/lang/Class;"⟩ ∈ lw_all) {a n : Nat} {f : Nat → Option Nat} (hh : h a = some (.inl (D.1 103, n, .inr (.inr (.inr (.inr f)))))) (hW : Nat.ble ((st.map fun v => v.category).sum) 8 = true) (hf : Nat.ble 1 R.frames = true) (hlo : Nat.ble 60 R.locals = true) (hdg : decode cc pc = .ok (.invokevirtual index, 3)) (kk : zz_V D b0 nL p l e R s m args below meth c Q cs ss h lo (pc + 3) (.ref (D.2 1000 6) :: st)) : zz_V D b0 nL p l e R s m args below meth c Q cs ss h lo pc (.ref a :: st) := fun H locs la hP hS hl => by
  have hts := C.2.2.2.2.1
  have hw := Nat.le_of_ble_eq_true hW
  have hl2 := Nat.le_of_ble_eq_true hlo
  have hnm : s.vm.findClass "[Ljava/lang/Object;" = some (D.1 103) := by
    obtain ⟨_, _, _, _, _, h4⟩ := ((C.2.2.2.2.2.2.2.2.2.1).2 3 _ rfl).2
    exact h4
  exact va_getC C.1 C.2.1 (zz_ml C hl) (zz_own C ho) (hts _ hlink) (va_Dc.use (C.2.2.2.2.2.2.2.2.2.2.1.2.2.2.2.2.2.1)) (hts _ q1616) (hts _ q472) (hts _ q484) (zz_mi C) ⟨_, (hP a _ hh).2, rfl, hnm⟩ (Nat.le_of_ble_eq_true hf) (by omega) hdg (kk H locs la hP hS hl)
theorem zz_ldcM (C : zz_C D b0 y cc nL ret p s m args meth c) {own : String} {index : Nat} (ho : y.cls = own) (hlink : Cond.classLink own index "[Ljava/lang/Object;" ∈ lw_all) (hdg : decode cc pc = .ok (.ldc index, 2)) (kk : zz_V D b0 nL p l e R s m args below meth c Q cs ss h lo (pc + 2) (.ref (D.2 1000 6) :: st)) : zz_V D b0 nL p l e R s m args below meth c Q cs ss h lo pc st := fun H locs la hP hS hl =>
  va_ldcM C.1 C.2.1 (zz_own C ho) (C.2.2.2.2.1 _ hlink) (zz_mi C) hdg (kk H locs la hP hS hl)
theorem zz_cloneF (C : zz_C D b0 y cc nL ret p s m args meth c) {own : String} {index : Nat} (ho : y.cls = own) (hlink : Cond.methodLink own index ⟨"[I", "clone", "()Ljava/lang/Object;"⟩ ∈ lw_all) (hW : Nat.ble ((st.map fun v => v.category).sum) 8 = true) (hf : Nat.ble 1 R.frames = true) (hlo : Nat.ble 60 R.locals = true) (hc : Nat.ble (cs + 1) R.cells = true) (hs : ss + 4 ≤ R.slots) (hdg : decode cc pc = .ok (.invokevirtual index, 3)) (kk : ∀ o : Nat, h o = none → b0 ≤ o → zz_V D b0 nL p l e R s m args below meth c Q (cs + 1) (ss + 4) (zz_up h o (.inl (D.1 100, 4, .inl zz_gF))) lo (pc + 3) (.ref o :: st)) : zz_V D b0 nL p l e R s m args below meth c Q cs ss h lo pc (.ref (D.2 1000 2) :: st) := fun H locs la hP hS hl => by
  have hts := C.2.2.2.2.1
  have hw := Nat.le_of_ble_eq_true hW
  have hl2 := Nat.le_of_ble_eq_true hlo
  obtain ⟨⟨scr, x1, x2, x3, x4, x5⟩, cell, y1, y2, y3, y4⟩ := zz_Fx C
  cases x1.symm.trans y1
  have hlt : D.2 1000 2 < s.heap.size := (Array.getElem?_eq_some_iff.mp x1).1
  have hcellH : H[D.2 1000 2]? = some scr := (hS.2.1 _ hlt y4).trans x1
  have hcls : scr.cls = D.1 100 := Option.some.inj (y3.symm.trans (zz_nmI C))
  have hsl : scr.slots = (vp_cell (D.1 100) (4, .inl zz_gF)).slots := by
    refine Array.ext_getElem? (fun i => ?_)
    by_cases hi : i < 4
    · rw [x5 i hi]
      exact (arrV_read (D.1 100) (N := 4) (fun j => .int (zz_gF j)) hi).symm
    · have hz : (vp_cell (D.1 100) (4, .inl zz_gF)).slots.size = 4 := arrV_size _ _ _
      rw [Array.getElem?_eq_none (by omega), Array.getElem?_eq_none (by omega)]
  have hE : ({ cls := scr.cls, slots := scr.slots } : Cell) = vp_cell (D.1 100) (4, .inl zz_gF) := by rw [hcls, hsl]; rfl
  obtain ⟨c0, t0', f1, f2, f3⟩ := Cond.castable_spec (va_Nw.use (A := args) rfl (C.2.2.2.2.2.2.2.2.2.2.1.2.2.1 ("[I", "java/lang/Cloneable") (by decide +kernel)))
  have hc0 : c0 = scr.cls := Option.some.inj (f1.symm.trans y3)
  intro T hT X
  have hcellT : T.heap[D.2 1000 2]? = some scr := by rw [hT]; exact hcellH
  obtain ⟨-, kA, hkA, comp, hkind⟩ := State.isArrayOf_alike X.warmed.alike x2
  obtain ⟨-, kS, hkS, compS, hkindS⟩ := id x2
  obtain ⟨vm', X', st'⟩ := X.cloneArray C.1 (zz_own C ho) (hts _ hlink) (hts _ q137) (hts _ q138) (hts _ q139) (hts _ q140) (a := D.2 1000 2) (cell := scr) hcellT x2.1 x3 y3 f2 (by rw [← hc0]; exact f3)
    (fun i v hv => by
      rw [hsl] at hv
      obtain ⟨z, rfl⟩ := zz_cellI hv
      simp [State.fitsSlot, State.slotType?, hkA, hkind, fits])
    (g := F0 m pc la (.ref (D.2 1000 2) :: st)) rfl (by rw [zz_ml C hl]) rfl (by rw [C.2.1]; exact hdg) (Nat.le_of_ble_eq_true hf) (by show 2 * 0 + _ + 14 ≤ _; omega) (Nat.le_of_ble_eq_true hc) (by rw [x4]; exact hs) (hloader := Vm.clonesLoader_of_array hkS hkindS)
  rw [hE, x4] at X'
  generalize hH1 : H.push (vp_cell (D.1 100) (4, .inl zz_gF)) = H1
  have z1 : H1.size = H.size + 1 := by rw [← hH1, Array.size_push]
  have e1 : H1[H.size]? = some (vp_cell (D.1 100) (4, .inl zz_gF)) := by rw [← hH1, Array.getElem?_push_size]
  have o1 : ∀ q : Nat, q < H.size → H1[q]? = H[q]? := fun q hq => by rw [← hH1, Array.getElem?_push, if_neg (Nat.ne_of_lt hq)]
  have hbb : b0 ≤ H.size := Nat.le_trans C.2.2.2.2.2.2.2.2.1 hS.1
  obtain ⟨t, b1, b2⟩ := kk H.size hP.none hbb H1 locs la (hP.new rfl hbb e1 o1) ⟨Nat.le_trans hS.1 (by omega), fun x h1 h2 => (o1 x (Nat.lt_of_lt_of_le h1 hS.1)).trans (hS.2.1 x h1 h2), hS.2.2⟩ hl ((T.setVm vm').pushCell (vp_cell (D.1 100) (4, .inl zz_gF))) (by rw [← hH1, ← hT]; rfl) X'
  refine ⟨t, st' t ?_, b2⟩
  rw [hE, hT]
  exact b1
end ZZ
