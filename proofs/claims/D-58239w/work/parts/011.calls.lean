/-! arrays, statics, calls and returns over the abstract heap -/
def zz_all (h : zz_H) (n : Nat) : va_W := (List.range n).filterMap (fun a => (h a).map (fun e => (a, e)))
theorem zz_all_of {h : zz_H} {n k : Nat} {q : Nat × va_E} (hk : (zz_all h n)[k]? = some q) : h q.1 = some q.2 ∧ q.1 < n := by
  obtain ⟨a, ha, hq⟩ := List.mem_filterMap.mp (List.mem_of_getElem? hk)
  cases hh : h a with
  | none => rw [hh] at hq; cases hq
  | some e =>
    rw [hh] at hq
    cases hq
    exact ⟨hh, List.mem_range.mp ha⟩
theorem zz_all_get {h : zz_H} {n a : Nat} {e : va_E} (hh : h a = some e) (ha : a < n) : ∃ k : Nat, (zz_all h n)[k]? = some (a, e) := by
  refine List.getElem?_of_mem (List.mem_filterMap.mpr ⟨a, List.mem_range.mpr ha, ?_⟩)
  rw [hh]; rfl
theorem zz_allP {D : va_G} {b0 : Nat} {h : zz_H} {H : Heap} (hP : zz_P D b0 h H) : va_P D zz_cl (zz_all h H.size) H := fun _ q hk => (hP q.1 q.2 (zz_all_of hk).1).2
theorem zz_all_nd (h : zz_H) (n : Nat) : ((zz_all h n).map Prod.fst).Pairwise (fun a b => a < b) := by
  unfold zz_all
  rw [List.pairwise_map, List.pairwise_filterMap]
  refine List.Pairwise.imp ?_ List.pairwise_lt_range
  intro a b hab x hx z hz
  cases ha : h a with
  | none => rw [ha] at hx; cases hx
  | some e1 =>
    cases hb : h b with
    | none => rw [hb] at hz; cases hz
    | some e2 =>
      rw [ha] at hx; rw [hb] at hz
      cases hx; cases hz
      exact hab
theorem zz_allD {D : va_G} {b0 : Nat} {h : zz_H} {H : Heap} (hP : zz_P D b0 h H) : va_D (fun q => b0 ≤ q) (zz_all h H.size) := by
  refine ⟨fun i j p q hi hj hpq => ?_, fun k q hk => (hP q.1 q.2 (zz_all_of hk).1).1⟩
  have hn := List.pairwise_iff_getElem.mp (zz_all_nd h H.size)
  obtain ⟨hi1, hi2⟩ := List.getElem?_eq_some_iff.mp hi
  obtain ⟨hj1, hj2⟩ := List.getElem?_eq_some_iff.mp hj
  rcases Nat.lt_trichotomy i j with g | g | g
  · have := hn i j (by simpa using hi1) (by simpa using hj1) g
    simp [hi2, hj2, hpq] at this
  · exact g
  · have := hn j i (by simpa using hj1) (by simpa using hi1) g
    simp [hi2, hj2, hpq] at this
theorem zz_allset {D : va_G} {b0 : Nat} {h : zz_H} {H H1 : Heap} {q0 a : Nat} {e0 e : va_E} (hP : zz_P D b0 h H) (hq : (zz_all h H.size)[q0]? = some (a, e0)) (hP1 : va_P D zz_cl ((zz_all h H.size).set q0 (a, e)) H1) : zz_P D b0 (zz_up h a e) H1 := by
  have hl := (List.getElem?_eq_some_iff.mp hq).1
  intro x e' hx
  by_cases hxa : x = a
  · subst hxa
    rw [zz_us] at hx
    cases hx
    exact ⟨(hP _ _ (zz_all_of hq).1).1, hP1 q0 _ (List.getElem?_set_self hl)⟩
  · rw [zz_un hxa] at hx
    obtain ⟨k, hk⟩ := zz_all_get hx (hP x e' hx).2.lt
    refine ⟨(hP x e' hx).1, hP1 k _ ?_⟩
    rw [List.getElem?_set_ne]
    · exact hk
    · intro hqk
      subst hqk
      rw [hq] at hk
      cases hk
      exact hxa rfl
theorem zz_allpush {D : va_G} {b0 : Nat} {h : zz_H} {H H1 : Heap} {q : Nat} {e : va_E} (hP : zz_P D b0 h H) (hP1 : va_P D zz_cl (zz_all h H.size ++ [(q, e)]) H1) (hD1 : va_D (fun q => b0 ≤ q) (zz_all h H.size ++ [(q, e)])) : h q = none ∧ b0 ≤ q ∧ zz_P D b0 (zz_up h q e) H1 := by
  have hlast : (zz_all h H.size ++ [(q, e)])[(zz_all h H.size).length]? = some (q, e) := by
    rw [List.getElem?_append_right (Nat.le_refl _), Nat.sub_self]; rfl
  have old : ∀ (x : Nat) (e' : va_E), h x = some e' → ∃ k : Nat, k < (zz_all h H.size).length ∧ (zz_all h H.size ++ [(q, e)])[k]? = some (x, e') := by
    intro x e' hx
    obtain ⟨k, hk⟩ := zz_all_get hx (hP x e' hx).2.lt
    have hl := (List.getElem?_eq_some_iff.mp hk).1
    exact ⟨k, hl, by rw [List.getElem?_append_left hl]; exact hk⟩
  have hb := hD1.2 _ _ hlast
  refine ⟨?_, hb, ?_⟩
  · cases hq : h q with
    | none => rfl
    | some e' =>
      obtain ⟨k, hl, hk⟩ := old q e' hq
      have := hD1.1 _ _ _ _ hk hlast rfl
      omega
  · intro x e' hx
    by_cases hxa : x = q
    · subst hxa
      rw [zz_us] at hx
      cases hx
      exact ⟨hb, hP1 _ _ hlast⟩
    · rw [zz_un hxa] at hx
      obtain ⟨k, hl, hk⟩ := old x e' hx
      exact ⟨(hP x e' hx).1, hP1 k _ hk⟩
theorem zz_fresh {D : va_G} {b0 : Nat} {h : zz_H} {H : Heap} (hP : zz_P D b0 h H) {x : Nat} {e : va_E} (hx : h x = some e) : x < H.size := (hP x e hx).2.lt
theorem zz_RA_eq {D : va_G} {cl : List vw_C} {ty : FieldType} {tys : List (ClassId × FieldType)} {s : State} {cA c1 : ClassId} (i : Nat) (hi : tys[i]? = some (c1, ty)) (hK : va_K D cl (tys ++ [(cA, ty)]) s) : cA = c1 := by
  have h0 := (hK.2 i (c1, ty) (by rw [List.getElem?_append_left (List.getElem?_eq_some_iff.mp hi).1]; exact hi)).2
  have h1 := (hK.2 tys.length (cA, ty) (by rw [List.getElem?_append_right (Nat.le_refl _), Nat.sub_self]; rfl)).2
  cases ty with
  | object C =>
    obtain ⟨_, _, _, _, _, h4⟩ := h0
    obtain ⟨_, _, _, _, _, g4⟩ := h1
    exact Option.some.inj (g4.symm.trans h4)
  | _ => exact Option.some.inj (Eq.trans (Eq.symm h1) h0)
theorem zz_inN {i : Int32} {j n : Nat} (hi : i = nI j) (hj : j < n) (hn : n ≤ 2147483647) : vp_in i n ∧ i.toNatClampNeg = j := by
  subst hi
  exact ⟨vp_in_nI hj (by omega), nI_clamp (by omega)⟩
section ZZ
variable {D : va_G} {b0 : Nat} {p : Program} {l : Launch} {e : Env} {R : Room} {s : State} {m : MethodId} {args : Array Value} {below : List Frame} {meth : Method} {c : Code} {Q : State → Prop} {cs ss : Nat} {h : zz_H} {lo : List (Nat × Value)} {y : MethodName} {cc : ByteArray} {nL : Nat} {ret : Option FieldType} {pc : Nat} {st : List Value}

theorem zz_iald (C : zz_C D b0 y cc nL ret p s m args meth c) {a n : Nat} {f : Nat → Int32} (hh : h a = some (.inl (D.1 100, n, .inl f))) {i : Int32} {j : Nat} (hi : i = nI j) (hj : j < n) (hn : n ≤ 2147483647) (hdg : decode cc pc = .ok (.iaload, 1)) (kk : zz_V D b0 nL p l e R s m args below meth c Q cs ss h lo (pc + 1) (.int (f j) :: st)) : zz_V D b0 nL p l e R s m args below meth c Q cs ss h lo pc (.int i :: .ref a :: st) := fun H locs la hP hS hl => by
  obtain ⟨h1, h2⟩ := zz_inN hi hj hn
  exact va_iald C.1 C.2.1 C.2.2.2.2.2.2.2.2.2.1 (zz_one hP hh) 0 0 rfl rfl h1 hdg (by rw [h2]; exact kk H locs la hP hS hl)
theorem zz_zald (C : zz_C D b0 y cc nL ret p s m args meth c) {a n : Nat} {f : Nat → Int32} (hh : h a = some (.inl (D.1 101, n, .inl f))) {i : Int32} {j : Nat} (hi : i = nI j) (hj : j < n) (hn : n ≤ 2147483647) (hdg : decode cc pc = .ok (.baload, 1)) (kk : zz_V D b0 nL p l e R s m args below meth c Q cs ss h lo (pc + 1) (.int (f j) :: st)) : zz_V D b0 nL p l e R s m args below meth c Q cs ss h lo pc (.int i :: .ref a :: st) := fun H locs la hP hS hl => by
  obtain ⟨h1, h2⟩ := zz_inN hi hj hn
  exact va_zald C.1 C.2.1 C.2.2.2.2.2.2.2.2.2.1 (zz_one hP hh) 0 1 rfl rfl h1 hdg (by rw [h2]; exact kk H locs la hP hS hl)
theorem zz_bald (C : zz_C D b0 y cc nL ret p s m args meth c) {a n : Nat} {f : Nat → Int32} (hh : h a = some (.inl (D.1 102, n, .inl f))) {i : Int32} {j : Nat} (hi : i = nI j) (hj : j < n) (hn : n ≤ 2147483647) (hdg : decode cc pc = .ok (.baload, 1)) (kk : zz_V D b0 nL p l e R s m args below meth c Q cs ss h lo (pc + 1) (.int (f j) :: st)) : zz_V D b0 nL p l e R s m args below meth c Q cs ss h lo pc (.int i :: .ref a :: st) := fun H locs la hP hS hl => by
  obtain ⟨h1, h2⟩ := zz_inN hi hj hn
  exact va_bald C.1 C.2.1 C.2.2.2.2.2.2.2.2.2.1 (zz_one hP hh) 0 2 rfl rfl h1 hdg (by rw [h2]; exact kk H locs la hP hS hl)
theorem zz_aaldO (C : zz_C D b0 y cc nL ret p s m args meth c) {a n : Nat} {f : Nat → Option Nat} (hh : h a = some (.inl (D.1 103, n, .inr (.inr (.inr (.inr f)))))) {i : Int32} {j : Nat} (hi : i = nI j) (hj : j < n) (hn : n ≤ 2147483647) {v : Value} (hv : va_rf (f j) = v) (hdg : decode cc pc = .ok (.aaload, 1)) (kk : zz_V D b0 nL p l e R s m args below meth c Q cs ss h lo (pc + 1) (v :: st)) : zz_V D b0 nL p l e R s m args below meth c Q cs ss h lo pc (.int i :: .ref a :: st) := fun H locs la hP hS hl => by
  obtain ⟨h1, h2⟩ := zz_inN hi hj hn
  exact va_aldq (C := "java/lang/Object") C.1 C.2.1 C.2.2.2.2.2.2.2.2.2.1 (zz_one hP hh) 0 3 rfl rfl h1 hdg (by rw [h2, hv]; exact kk H locs la hP hS hl)
theorem zz_aaldQ (C : zz_C D b0 y cc nL ret p s m args meth c) {a n : Nat} {f : Nat → Option Nat} (hh : h a = some (.inl (D.1 104, n, .inr (.inr (.inr (.inr f)))))) {i : Int32} {j : Nat} (hi : i = nI j) (hj : j < n) (hn : n ≤ 2147483647) {v : Value} (hv : va_rf (f j) = v) (hdg : decode cc pc = .ok (.aaload, 1)) (kk : zz_V D b0 nL p l e R s m args below meth c Q cs ss h lo (pc + 1) (v :: st)) : zz_V D b0 nL p l e R s m args below meth c Q cs ss h lo pc (.int i :: .ref a :: st) := fun H locs la hP hS hl => by
  obtain ⟨h1, h2⟩ := zz_inN hi hj hn
  exact va_aldq (C := "QuarryOrders$Quarry") C.1 C.2.1 C.2.2.2.2.2.2.2.2.2.1 (zz_one hP hh) 0 4 rfl rfl h1 hdg (by rw [h2, hv]; exact kk H locs la hP hS hl)
theorem zz_alen (C : zz_C D b0 y cc nL ret p s m args meth c) {a : Nat} {cA : ClassId} {x : vp_A} (hh : h a = some (.inl (cA, x))) (k : Nat) {ty : FieldType} (ht : (zz_tys D)[k]? = some (cA, ty)) (hdg : decode cc pc = .ok (.arraylength, 1)) (kk : zz_V D b0 nL p l e R s m args below meth c Q cs ss h lo (pc + 1) (.int (nI x.1) :: st)) : zz_V D b0 nL p l e R s m args below meth c Q cs ss h lo pc (.ref a :: st) := fun H locs la hP hS hl => va_alen C.1 C.2.1 C.2.2.2.2.2.2.2.2.2.1 (zz_one hP hh) 0 k rfl ht rfl hdg (kk H locs la hP hS hl)
theorem zz_iast (C : zz_C D b0 y cc nL ret p s m args meth c) {a n : Nat} {f : Nat → Int32} (hh : h a = some (.inl (D.1 100, n, .inl f))) {i x : Int32} {j : Nat} (hi : i = nI j) (hj : j < n) (hn : n ≤ 2147483647) (hdg : decode cc pc = .ok (.iastore, 1)) (kk : zz_V D b0 nL p l e R s m args below meth c Q cs ss (zz_up h a (.inl (D.1 100, n, .inl (upd f j x)))) lo (pc + 1) st) : zz_V D b0 nL p l e R s m args below meth c Q cs ss h lo pc (.int x :: .int i :: .ref a :: st) := fun H locs la hP hS hl => by
  obtain ⟨h1, h2⟩ := zz_inN hi hj hn
  obtain ⟨q0, hq⟩ := zz_all_get hh (zz_fresh hP hh)
  refine va_iast C.1 C.2.1 C.2.2.2.2.2.2.2.2.2.1 (zz_allP hP) (zz_allD hP) hS q0 0 hq rfl h1 hdg (fun H1 locs1 hP1 _ hS1 => ?_)
  rw [h2] at hP1
  exact kk H1 locs1 la (zz_allset hP hq hP1) hS1 hl
theorem zz_zast (C : zz_C D b0 y cc nL ret p s m args meth c) {a n : Nat} {f : Nat → Int32} (hh : h a = some (.inl (D.1 101, n, .inl f))) {i x : Int32} {j : Nat} (hi : i = nI j) (hj : j < n) (hn : n ≤ 2147483647) (hdg : decode cc pc = .ok (.bastore, 1)) (kk : zz_V D b0 nL p l e R s m args below meth c Q cs ss (zz_up h a (.inl (D.1 101, n, .inl (upd f j (vp_nar .boolean x))))) lo (pc + 1) st) : zz_V D b0 nL p l e R s m args below meth c Q cs ss h lo pc (.int x :: .int i :: .ref a :: st) := fun H locs la hP hS hl => by
  obtain ⟨h1, h2⟩ := zz_inN hi hj hn
  obtain ⟨q0, hq⟩ := zz_all_get hh (zz_fresh hP hh)
  refine va_zast C.1 C.2.1 C.2.2.2.2.2.2.2.2.2.1 (zz_allP hP) (zz_allD hP) hS q0 1 hq rfl h1 hdg (fun H1 locs1 hP1 _ hS1 => ?_)
  rw [h2] at hP1
  exact kk H1 locs1 la (zz_allset hP hq hP1) hS1 hl
theorem zz_bast (C : zz_C D b0 y cc nL ret p s m args meth c) {a n : Nat} {f : Nat → Int32} (hh : h a = some (.inl (D.1 102, n, .inl f))) {i x : Int32} {j : Nat} (hi : i = nI j) (hj : j < n) (hn : n ≤ 2147483647) (hdg : decode cc pc = .ok (.bastore, 1)) (kk : zz_V D b0 nL p l e R s m args below meth c Q cs ss (zz_up h a (.inl (D.1 102, n, .inl (upd f j (vp_nar .byte x))))) lo (pc + 1) st) : zz_V D b0 nL p l e R s m args below meth c Q cs ss h lo pc (.int x :: .int i :: .ref a :: st) := fun H locs la hP hS hl => by
  obtain ⟨h1, h2⟩ := zz_inN hi hj hn
  obtain ⟨q0, hq⟩ := zz_all_get hh (zz_fresh hP hh)
  refine va_bast C.1 C.2.1 C.2.2.2.2.2.2.2.2.2.1 (zz_allP hP) (zz_allD hP) hS q0 2 hq rfl h1 hdg (fun H1 locs1 hP1 _ hS1 => ?_)
  rw [h2] at hP1
  exact kk H1 locs1 la (zz_allset hP hq hP1) hS1 hl
theorem zz_aastO (C : zz_C D b0 y cc nL ret p s m args meth c) {a n v ci : Nat} {f : Nat → Option Nat} {r : vw_C} {vs : List Value} (hh : h a = some (.inl (D.1 103, n, .inr (.inr (.inr (.inr f)))))) (hv : h v = some (.inr (ci, vs))) (hc : zz_cl[ci]? = some r) (hm : (r.1, "java/lang/Object") ∈ zz_nC) {i : Int32} {j : Nat} (hi : i = nI j) (hj : j < n) (hn : n ≤ 2147483647) (hdg : decode cc pc = .ok (.aastore, 1)) (kk : zz_V D b0 nL p l e R s m args below meth c Q cs ss (zz_up h a (.inl (D.1 103, n, .inr (.inr (.inr (.inr (va_up f j (some v)))))))) lo (pc + 1) st) : zz_V D b0 nL p l e R s m args below meth c Q cs ss h lo pc (.ref v :: .int i :: .ref a :: st) := fun H locs la hP hS hl => by
  obtain ⟨h1, h2⟩ := zz_inN hi hj hn
  obtain ⟨q0, hq⟩ := zz_all_get hh (zz_fresh hP hh)
  obtain ⟨qk, hqk⟩ := zz_all_get hv (zz_fresh hP hv)
  refine va_astqO (E := "java/lang/Object") C.1 C.2.1 C.2.2.2.2.2.2.2.2.2.1 (zz_allP hP) (zz_allD hP) hS q0 3 qk ci hq rfl (C.2.2.2.2.2.2.2.2.2.2.1.2.2.1 _ hm) hqk hc h1 hdg (fun H1 locs1 hP1 _ hS1 => ?_)
  rw [h2] at hP1
  exact kk H1 locs1 la (zz_allset hP hq hP1) hS1 hl
theorem zz_anyA {a k0 : Nat} {cA : ClassId} {x : vp_A} {ty : FieldType} {nm : String} (C : zz_C D b0 y cc nL ret p s m args meth c) {H : Heap} (hP : zz_P D b0 h H) (hh : h a = some (.inl (cA, x))) (ht : (zz_tys D)[k0]? = some (cA, ty)) (hnm : s.vm.findClass nm = some cA) (hm : (nm, "java/lang/Object") ∈ zz_nC) : va_Any "java/lang/Object" s H a := by
  have hvm0 : (vp_cell cA x).vm = .none := by
    obtain ⟨n, f | f | f | f | f⟩ := x <;> rfl
  have hcl0 : (vp_cell cA x).cls = cA := by
    obtain ⟨n, f | f | f | f | f⟩ := x <;> rfl
  obtain ⟨kC, hkC, -⟩ := Vm.findClass_spec hnm
  obtain ⟨c0, t0, f1, f2, f3⟩ := Cond.castable_spec (va_Nw.use (A := args) rfl (C.2.2.2.2.2.2.2.2.2.2.1.2.2.1 _ hm))
  refine ⟨_, (hP a _ hh).2, by rw [hvm0]; rfl, ⟨kC, by rw [hcl0]; exact hkC⟩, fun comp hcomp => ?_⟩
  rw [hcl0]
  have e1 : cA = c0 := Option.some.inj (hnm.symm.trans f1)
  have e2 : comp = t0 := Option.some.inj (hcomp.symm.trans f2)
  rw [e1, e2]
  exact f3
theorem zz_nmI (C : zz_C D b0 y cc nL ret p s m args meth c) : s.vm.findClass "[I" = some (D.1 100) := va_nm_int ((C.2.2.2.2.2.2.2.2.2.1).2 0 _ rfl).2
theorem zz_aastI (C : zz_C D b0 y cc nL ret p s m args meth c) {a n v n' : Nat} {f : Nat → Option Nat} {g : Nat → Int32} (hh : h a = some (.inl (D.1 103, n, .inr (.inr (.inr (.inr f)))))) (hv : h v = some (.inl (D.1 100, n', .inl g))) {i : Int32} {j : Nat} (hi : i = nI j) (hj : j < n) (hn : n ≤ 2147483647) (hdg : decode cc pc = .ok (.aastore, 1)) (kk : zz_V D b0 nL p l e R s m args below meth c Q cs ss (zz_up h a (.inl (D.1 103, n, .inr (.inr (.inr (.inr (va_up f j (some v)))))))) lo (pc + 1) st) : zz_V D b0 nL p l e R s m args below meth c Q cs ss h lo pc (.ref v :: .int i :: .ref a :: st) := fun H locs la hP hS hl => by
  obtain ⟨h1, h2⟩ := zz_inN hi hj hn
  obtain ⟨q0, hq⟩ := zz_all_get hh (zz_fresh hP hh)
  refine va_astqM (E := "java/lang/Object") C.1 C.2.1 C.2.2.2.2.2.2.2.2.2.1 (zz_allP hP) (zz_allD hP) hS q0 3 hq rfl (zz_anyA (k0 := 0) C hP hv rfl (zz_nmI C) (by decide +kernel)) h1 hdg (fun H1 locs1 hP1 _ hS1 => ?_)
  rw [h2] at hP1
  exact kk H1 locs1 la (zz_allset hP hq hP1) hS1 hl
theorem zz_aastN (C : zz_C D b0 y cc nL ret p s m args meth c) {a n : Nat} {f : Nat → Option Nat} (hh : h a = some (.inl (D.1 103, n, .inr (.inr (.inr (.inr f)))))) {i : Int32} {j : Nat} (hi : i = nI j) (hj : j < n) (hn : n ≤ 2147483647) (hdg : decode cc pc = .ok (.aastore, 1)) (kk : zz_V D b0 nL p l e R s m args below meth c Q cs ss (zz_up h a (.inl (D.1 103, n, .inr (.inr (.inr (.inr (va_up f j none))))))) lo (pc + 1) st) : zz_V D b0 nL p l e R s m args below meth c Q cs ss h lo pc (.null :: .int i :: .ref a :: st) := fun H locs la hP hS hl => by
  obtain ⟨h1, h2⟩ := zz_inN hi hj hn
  obtain ⟨q0, hq⟩ := zz_all_get hh (zz_fresh hP hh)
  refine va_astqN (C := "java/lang/Object") C.1 C.2.1 C.2.2.2.2.2.2.2.2.2.1 (zz_allP hP) (zz_allD hP) hS q0 3 hq rfl h1 hdg (fun H1 locs1 hP1 _ hS1 => ?_)
  rw [h2] at hP1
  exact kk H1 locs1 la (zz_allset hP hq hP1) hS1 hl
theorem zz_aastQ (C : zz_C D b0 y cc nL ret p s m args meth c) {a n v : Nat} {f : Nat → Option Nat} {vs : List Value} (hh : h a = some (.inl (D.1 104, n, .inr (.inr (.inr (.inr f)))))) (hv : h v = some (.inr (1, vs))) {i : Int32} {j : Nat} (hi : i = nI j) (hj : j < n) (hn : n ≤ 2147483647) (hdg : decode cc pc = .ok (.aastore, 1)) (kk : zz_V D b0 nL p l e R s m args below meth c Q cs ss (zz_up h a (.inl (D.1 104, n, .inr (.inr (.inr (.inr (va_up f j (some v)))))))) lo (pc + 1) st) : zz_V D b0 nL p l e R s m args below meth c Q cs ss h lo pc (.ref v :: .int i :: .ref a :: st) := fun H locs la hP hS hl => by
  obtain ⟨h1, h2⟩ := zz_inN hi hj hn
  obtain ⟨q0, hq⟩ := zz_all_get hh (zz_fresh hP hh)
  obtain ⟨qk, hqk⟩ := zz_all_get hv (zz_fresh hP hv)
  refine va_astq C.1 C.2.1 C.2.2.2.2.2.2.2.2.2.1 (zz_allP hP) (zz_allD hP) hS q0 4 qk 1 (r := (RX1, TX1, 13)) hq rfl hqk rfl h1 hdg (fun H1 locs1 hP1 _ hS1 => ?_)
  rw [h2] at hP1
  exact kk H1 locs1 la (zz_allset hP hq hP1) hS1 hl

theorem zz_newI (C : zz_C D b0 y cc nL ret p s m args meth c) {n : Int32} {N : Nat} (hn : n = nI N) (hN : N ≤ 1000000) (hcells : Nat.ble (cs + 1) R.cells = true) (hslots : ss + N ≤ R.slots) (hdg : decode cc pc = .ok (.newarray .int, 2)) (kk : ∀ o : Nat, h o = none → b0 ≤ o → zz_V D b0 nL p l e R s m args below meth c Q (cs + 1) (ss + N) (zz_up h o (.inl (D.1 100, N, .inl (fun _ => 0)))) lo (pc + 2) (.ref o :: st)) : zz_V D b0 nL p l e R s m args below meth c Q cs ss h lo pc (.int n :: st) := fun H locs la hP hS hl => by
  subst hn
  refine va_newa (a0 := (N, .inl (fun _ => 0))) (atype := .int) C.1 C.2.1 (C.2.2.2.2.1 _ q172) (ty := .int) rfl C.2.2.2.2.2.2.2.2.2.1 (zz_allP hP) (zz_allD hP) hS (fun q hq => Nat.le_trans C.2.2.2.2.2.2.2.2.1 hq) (fun cA => rfl) (nI_pos (by omega)) (nI_clamp (by omega)) (by show N * _ ≤ _; have : componentBytes .int ≤ 4 := (by decide); have := Nat.mul_le_mul hN this; omega) (Nat.le_of_ble_eq_true hcells) hslots hdg (fun q cA H1 hK1 hP1 hD1 hS1 => ?_)
  cases zz_RA_eq 0 rfl hK1
  obtain ⟨g1, g2, g3⟩ := zz_allpush hP hP1 hD1
  exact kk q g1 g2 H1 locs la g3 hS1 hl
theorem zz_newZ (C : zz_C D b0 y cc nL ret p s m args meth c) {n : Int32} {N : Nat} (hn : n = nI N) (hN : N ≤ 1000000) (hcells : Nat.ble (cs + 1) R.cells = true) (hslots : ss + N ≤ R.slots) (hdg : decode cc pc = .ok (.newarray .boolean, 2)) (kk : ∀ o : Nat, h o = none → b0 ≤ o → zz_V D b0 nL p l e R s m args below meth c Q (cs + 1) (ss + N) (zz_up h o (.inl (D.1 101, N, .inl (fun _ => 0)))) lo (pc + 2) (.ref o :: st)) : zz_V D b0 nL p l e R s m args below meth c Q cs ss h lo pc (.int n :: st) := fun H locs la hP hS hl => by
  subst hn
  refine va_newa (a0 := (N, .inl (fun _ => 0))) (atype := .boolean) C.1 C.2.1 (C.2.2.2.2.1 _ q1267) (ty := .boolean) rfl C.2.2.2.2.2.2.2.2.2.1 (zz_allP hP) (zz_allD hP) hS (fun q hq => Nat.le_trans C.2.2.2.2.2.2.2.2.1 hq) (fun cA => rfl) (nI_pos (by omega)) (nI_clamp (by omega)) (by show N * _ ≤ _; have : componentBytes .boolean ≤ 4 := (by decide); have := Nat.mul_le_mul hN this; omega) (Nat.le_of_ble_eq_true hcells) hslots hdg (fun q cA H1 hK1 hP1 hD1 hS1 => ?_)
  cases zz_RA_eq 1 rfl hK1
  obtain ⟨g1, g2, g3⟩ := zz_allpush hP hP1 hD1
  exact kk q g1 g2 H1 locs la g3 hS1 hl
theorem zz_newB (C : zz_C D b0 y cc nL ret p s m args meth c) {n : Int32} {N : Nat} (hn : n = nI N) (hN : N ≤ 1000000) (hcells : Nat.ble (cs + 1) R.cells = true) (hslots : ss + N ≤ R.slots) (hdg : decode cc pc = .ok (.newarray .byte, 2)) (kk : ∀ o : Nat, h o = none → b0 ≤ o → zz_V D b0 nL p l e R s m args below meth c Q (cs + 1) (ss + N) (zz_up h o (.inl (D.1 102, N, .inl (fun _ => 0)))) lo (pc + 2) (.ref o :: st)) : zz_V D b0 nL p l e R s m args below meth c Q cs ss h lo pc (.int n :: st) := fun H locs la hP hS hl => by
  subst hn
  refine va_newa (a0 := (N, .inl (fun _ => 0))) (atype := .byte) C.1 C.2.1 (C.2.2.2.2.1 _ q260) (ty := .byte) rfl C.2.2.2.2.2.2.2.2.2.1 (zz_allP hP) (zz_allD hP) hS (fun q hq => Nat.le_trans C.2.2.2.2.2.2.2.2.1 hq) (fun cA => rfl) (nI_pos (by omega)) (nI_clamp (by omega)) (by show N * _ ≤ _; have : componentBytes .byte ≤ 4 := (by decide); have := Nat.mul_le_mul hN this; omega) (Nat.le_of_ble_eq_true hcells) hslots hdg (fun q cA H1 hK1 hP1 hD1 hS1 => ?_)
  cases zz_RA_eq 2 rfl hK1
  obtain ⟨g1, g2, g3⟩ := zz_allpush hP hP1 hD1
  exact kk q g1 g2 H1 locs la g3 hS1 hl
theorem zz_newO (C : zz_C D b0 y cc nL ret p s m args meth c) {own : String} {index : Nat} (ho : y.cls = own) (hcl : Cond.classLink own index "java/lang/Object" ∈ lw_all) {n : Int32} {N : Nat} (hn : n = nI N) (hN : N ≤ 1000000) (hcells : Nat.ble (cs + 1) R.cells = true) (hslots : ss + N ≤ R.slots) (hdg : decode cc pc = .ok (.anewarray index, 3)) (kk : ∀ o : Nat, h o = none → b0 ≤ o → zz_V D b0 nL p l e R s m args below meth c Q (cs + 1) (ss + N) (zz_up h o (.inl (D.1 103, N, .inr (.inr (.inr (.inr (fun _ => none))))))) lo (pc + 3) (.ref o :: st)) : zz_V D b0 nL p l e R s m args below meth c Q cs ss h lo pc (.int n :: st) := fun H locs la hP hS hl => by
  subst hn
  refine va_newq (C := "java/lang/Object") C.1 C.2.1 (zz_own C ho) (C.2.2.2.2.1 _ hcl) (C.2.2.2.2.2.2.2.2.2.2.1.2.2.2.2.1) C.2.2.2.2.2.2.2.2.2.1 (zz_allP hP) (zz_allD hP) hS (fun q hq => Nat.le_trans C.2.2.2.2.2.2.2.2.1 hq) (nI_pos (by omega)) (nI_clamp (by omega)) (by omega) (Nat.le_of_ble_eq_true hcells) hslots hdg (fun q cA H1 hK1 hP1 hD1 hS1 => ?_)
  cases zz_RA_eq 3 rfl hK1
  obtain ⟨g1, g2, g3⟩ := zz_allpush hP hP1 hD1
  exact kk q g1 g2 H1 locs la g3 hS1 hl
theorem zz_newQ (C : zz_C D b0 y cc nL ret p s m args meth c) {own : String} {index : Nat} (ho : y.cls = own) (hcl : Cond.classLink own index "QuarryOrders$Quarry" ∈ lw_all) {n : Int32} {N : Nat} (hn : n = nI N) (hN : N ≤ 1000000) (hcells : Nat.ble (cs + 1) R.cells = true) (hslots : ss + N ≤ R.slots) (hdg : decode cc pc = .ok (.anewarray index, 3)) (kk : ∀ o : Nat, h o = none → b0 ≤ o → zz_V D b0 nL p l e R s m args below meth c Q (cs + 1) (ss + N) (zz_up h o (.inl (D.1 104, N, .inr (.inr (.inr (.inr (fun _ => none))))))) lo (pc + 3) (.ref o :: st)) : zz_V D b0 nL p l e R s m args below meth c Q cs ss h lo pc (.int n :: st) := fun H locs la hP hS hl => by
  subst hn
  refine va_newq (C := "QuarryOrders$Quarry") C.1 C.2.1 (zz_own C ho) (C.2.2.2.2.1 _ hcl) (C.2.2.2.2.2.2.2.2.2.2.1.2.2.2.2.2.1) C.2.2.2.2.2.2.2.2.2.1 (zz_allP hP) (zz_allD hP) hS (fun q hq => Nat.le_trans C.2.2.2.2.2.2.2.2.1 hq) (nI_pos (by omega)) (nI_clamp (by omega)) (by omega) (Nat.le_of_ble_eq_true hcells) hslots hdg (fun q cA H1 hK1 hP1 hD1 hS1 => ?_)
  cases zz_RA_eq 4 rfl hK1
  obtain ⟨g1, g2, g3⟩ := zz_allpush hP hP1 hD1
  exact kk q g1 g2 H1 locs la g3 hS1 hl
/-! statics -/
theorem zz_gets (C : zz_C D b0 y cc nL ret p s m args meth c) {own Cn n d ref : String} {v : Value} {index : Nat} (ho : y.cls = own) (hZ : va_Z Cn n d v (fun q => b0 ≤ q) s s.heap) (hlink : Cond.fieldLink own index ref n d ∈ lw_all) (hsame : ∀ x, s.fieldFound? Cn n d = some x → s.fieldFound? ref n d = some x) (hdg : decode cc pc = .ok (.getstatic index, 3)) (kk : zz_V D b0 nL p l e R s m args below meth c Q cs ss h lo (pc + 3) (v :: st)) : zz_V D b0 nL p l e R s m args below meth c Q cs ss h lo pc st := fun H locs la hP hS hl => va_gets C.1 C.2.1 hZ hS (zz_own C ho) (C.2.2.2.2.1 _ hlink) hsame hdg (kk H locs la hP hS hl)
theorem zz_getsN (C : zz_C D b0 y cc nL ret p s m args meth c) {own Cn n d ref host : String} {v : Value} {index : Nat} (ho : y.cls = own) (hZ : va_Z Cn n d v (fun q => b0 ≤ q) s s.heap) (hlink : va_Nw (Cond.fieldLinkNest own index ref n d host) s) (hsame : ∀ x, s.fieldFound? Cn n d = some x → s.fieldFound? ref n d = some x) (hdg : decode cc pc = .ok (.getstatic index, 3)) (kk : zz_V D b0 nL p l e R s m args below meth c Q cs ss h lo (pc + 3) (v :: st)) : zz_V D b0 nL p l e R s m args below meth c Q cs ss h lo pc st := fun H locs la hP hS hl => va_getsN C.1 C.2.1 hZ hS (zz_own C ho) (va_Nw.use rfl hlink) hsame hdg (kk H locs la hP hS hl)
theorem zz_ti (C : zz_C D b0 y cc nL ret p s m args meth c) {t N : Nat} {f : Nat → Value} (hT : va_T .int t N f (fun q => b0 ≤ q) s s.heap) {i : Int32} {j : Nat} (hi : i = nI j) (hj : j < N) (hn : N ≤ 2147483647) {v : Value} (hv : f j = v) (hdg : decode cc pc = .ok (.iaload, 1)) (kk : zz_V D b0 nL p l e R s m args below meth c Q cs ss h lo (pc + 1) (v :: st)) : zz_V D b0 nL p l e R s m args below meth c Q cs ss h lo pc (.int i :: .ref t :: st) := fun H locs la hP hS hl => by
  obtain ⟨h1, h2⟩ := zz_inN hi hj hn
  exact va_ti C.1 C.2.1 hT hS h1 (by rw [h2]; exact hv) hdg (kk H locs la hP hS hl)
theorem zz_tb (C : zz_C D b0 y cc nL ret p s m args meth c) {t N : Nat} {f : Nat → Value} (hT : va_T .byte t N f (fun q => b0 ≤ q) s s.heap) {i : Int32} {j : Nat} (hi : i = nI j) (hj : j < N) (hn : N ≤ 2147483647) {v : Value} (hv : f j = v) (hdg : decode cc pc = .ok (.baload, 1)) (kk : zz_V D b0 nL p l e R s m args below meth c Q cs ss h lo (pc + 1) (v :: st)) : zz_V D b0 nL p l e R s m args below meth c Q cs ss h lo pc (.int i :: .ref t :: st) := fun H locs la hP hS hl => by
  obtain ⟨h1, h2⟩ := zz_inN hi hj hn
  exact va_tb C.1 C.2.1 hT hS h1 (by rw [h2]; exact hv) hdg (kk H locs la hP hS hl)
theorem zz_tlen (C : zz_C D b0 y cc nL ret p s m args meth c) {t N : Nat} {f : Nat → Value} {ty : FieldType} (hT : va_T ty t N f (fun q => b0 ≤ q) s s.heap) (hdg : decode cc pc = .ok (.arraylength, 1)) (kk : zz_V D b0 nL p l e R s m args below meth c Q cs ss h lo (pc + 1) (.int (nI N) :: st)) : zz_V D b0 nL p l e R s m args below meth c Q cs ss h lo pc (.ref t :: st) := fun H locs la hP hS hl => va_tlen C.1 C.2.1 hT hS rfl hdg (kk H locs la hP hS hl)
/-- an object that was there before: a field of it -/
theorem zz_getO (C : zz_C D b0 y cc nL ret p s m args meth c) {own o n d ref : String} {v : Value} {t index : Nat} (ho : y.cls = own) (hF : va_OF o n d v t (fun q => b0 ≤ q) s s.heap) (hlink : Cond.fieldLink own index ref n d ∈ lw_all) (hsame : ∀ x, s.fieldFound? o n d = some x → s.fieldFound? ref n d = some x) (hdg : decode cc pc = .ok (.getfield index, 3)) (kk : zz_V D b0 nL p l e R s m args below meth c Q cs ss h lo (pc + 3) (v :: st)) : zz_V D b0 nL p l e R s m args below meth c Q cs ss h lo pc (.ref t :: st) := fun H locs la hP hS hl => by
  obtain ⟨cf, k, i, f, cell, h1, h2, h3, h4, h5, h6⟩ := hF
  exact W.getf C.1 C.2.1 (zz_own C ho) (C.2.2.2.2.1 _ hlink) (hsame _ h1) h2 (by rw [hS.2.1 t (Array.getElem?_eq_some_iff.mp h3).1 h6]; exact h3) h4 h5 rfl rfl hdg (kk H locs la hP hS hl)
/-! casts -/
theorem zz_cast (C : zz_C D b0 y cc nL ret p s m args meth c) {own Cn nm : String} {T : u_T} {N ci index a : Nat} {fs : List Value} (ho : y.cls = own) (hh : h a = some (.inr (ci, fs))) (hc : zz_cl[ci]? = some (Cn, T, N)) (hlink : Cond.classLink own index nm ∈ lw_all) (hm : Cn = nm ∨ (Cn, nm) ∈ zz_nC) (hdg : decode cc pc = .ok (.checkcast index, 3)) (kk : zz_V D b0 nL p l e R s m args below meth c Q cs ss h lo (pc + 3) (.ref a :: st)) : zz_V D b0 nL p l e R s m args below meth c Q cs ss h lo pc (.ref a :: st) := fun H locs la hP hS hl => by
  have hr := va_recv C.2.2.2.2.2.2.2.2.2.1 (zz_one hP hh) hc (q0 := 0) rfl
  rcases hm with hm | hm
  · subst hm
    exact va_castS C.1 C.2.1 (zz_own C ho) (C.2.2.2.2.1 _ hlink) ((C.2.2.2.2.2.2.2.2.2.1).1 ci _ hc).2 hr hdg (kk H locs la hP hS hl)
  · exact va_castY C.1 C.2.1 (zz_own C ho) (C.2.2.2.2.1 _ hlink) (C.2.2.2.2.2.2.2.2.2.2.1.2.2.1 _ hm) hr hdg (kk H locs la hP hS hl)
theorem zz_castA (C : zz_C D b0 y cc nL ret p s m args meth c) {own nm : String} {cA : ClassId} {x : vp_A} {index a : Nat} (ho : y.cls = own) (hh : h a = some (.inl (cA, x))) (hlink : Cond.classLink own index nm ∈ lw_all) (hnm : s.vm.findClass nm = some cA) (hdg : decode cc pc = .ok (.checkcast index, 3)) (kk : zz_V D b0 nL p l e R s m args below meth c Q cs ss h lo (pc + 3) (.ref a :: st)) : zz_V D b0 nL p l e R s m args below meth c Q cs ss h lo pc (.ref a :: st) := fun H locs la hP hS hl => va_castA (hexec := C.1) (hb := C.2.1) (zz_own C ho) (C.2.2.2.2.1 _ hlink) (zz_one hP hh) 0 rfl hnm hdg (kk H locs la hP hS hl)
theorem zz_castN (C : zz_C D b0 y cc nL ret p s m args meth c) {index : Nat} (hdg : decode cc pc = .ok (.checkcast index, 3)) (kk : zz_V D b0 nL p l e R s m args below meth c Q cs ss h lo (pc + 3) (.null :: st)) : zz_V D b0 nL p l e R s m args below meth c Q cs ss h lo pc (.null :: st) := fun H locs la hP hS hl => lv_castN C.1 C.2.1 hdg (kk H locs la hP hS hl)
/-! calls -/
def zz_push (v : Option Value) (st : List Value) : List Value := match v with
  | some x => x :: st
  | none => st
theorem zz_ran {Hc : Heap} {locs : List Loc} {la : Array Slot} {mc ms n2 : Nat} {rest st0 : List Value} {post : Option Value → zz_H → Prop} {a : Array Value} (hr : va_Run p l e R s m args below meth c Hc locs cs ss mc ms (F0 m pc la st0) rest (zz_Q D b0 post a) (fun q => b0 ≤ q)) (hS : va_S (fun q => b0 ≤ q) s.heap Hc locs) (hl : lv_has la nL lo) (e3 : n2 = pc + 3)
    (kk : ∀ (v : Option Value) (h' : zz_H), post v h' → zz_V D b0 nL p l e R s m args below meth c Q (cs + mc) (ss + ms) h' lo n2 (zz_push v rest)) : W p l e R s m args below meth c Hc locs cs ss Q (F0 m pc la st0) := by
  intro T hT X
  obtain ⟨v, st₀, t, T', L, h0, X', hL, e1, e2, ⟨⟨v', h', hv, hp, hb⟩, hz, hk⟩, st⟩ := hr T hT X
  cases hv
  rw [h0] at hz hk
  subst e3
  have hS1 : va_S (fun q => b0 ≤ q) s.heap T'.heap (locs ++ L) := ⟨Nat.le_trans hS.1 (by rw [e1]; exact hz), fun q h1 h2 => by rw [e1, hk q (Nat.lt_of_lt_of_le h1 hS.1) h2]; exact hS.2.1 q h1 h2, fun q hq => by
    rcases List.mem_append.mp hq with h | h
    · exact hS.2.2 q h
    · exact hL q h⟩
  obtain ⟨t2, a1, b1⟩ := kk v h' hp T'.heap (locs ++ L) la (by rw [e1]; exact hb) hS1 hl T' rfl X'
  refine ⟨t2, st t2 ?_, b1⟩
  cases v <;> exact a1
theorem zz_blind {as : List Value} : FrameBlind (va_Pc as (fun U => zz_K D b0 U ∧ b0 ≤ U.heap.size ∧ zz_P D b0 h U.heap)) := fun a U g mk q => ⟨q.1, q.2.1.call g mk a, q.2.2.1, q.2.2.2⟩
theorem zz_pre (C : zz_C D b0 y cc nL ret p s m args meth c) {H : Heap} {locs : List Loc} (hP : zz_P D b0 h H) (hS : va_S (fun q => b0 ≤ q) s.heap H locs) (as : List Value) : ∀ U : State, U.heap = H → s.WarmedH U.vm → va_Pc as (fun U => zz_K D b0 U ∧ b0 ≤ U.heap.size ∧ zz_P D b0 h U.heap) as.toArray U := by
  intro U hU hW
  refine ⟨rfl, C.2.2.2.2.2.2.2.2.2.warm hW (fun a h1 h2 => by rw [hU]; exact hS.2.1 a h1 h2), ?_, by rw [hU]; exact hP⟩
  rw [hU]
  exact Nat.le_trans C.2.2.2.2.2.2.2.2.1 hS.1
theorem zz_fix (C : zz_C D b0 y cc nL ret p s m args meth c) {own : String} (ho : y.cls = own) : CallFix p m c cc nL s args lw_all own := ⟨C.1, C.2.1, C.2.2.1, zz_own C ho, C.2.2.2.2.1⟩
theorem zz_w8 {la : Array Slot} {rest : List Value} {st0 : List Value} (h : Nat.ble ((rest.map fun v => v.category).sum) 8 = true) : 2 * (F0 m pc la st0).monitorRoom + (rest.map fun v => v.category).sum ≤ 8 := lv_room (Nat.le_of_ble_eq_true h)
end ZZ
/-- what the tables say of a method y: its code, its class; n parameters -/
def zz_Y (y : MethodName) (cc : ByteArray) (nL : Nat) (ret : Option FieldType) (n : Nat) : Prop := (y.cls ≠ "java/lang/invoke/MethodHandle" ∧ y.cls ≠ "java/lang/invoke/VarHandle" ∧ (parseMethodDescriptor y.desc).map (fun d => d.parameters.length) = some n) ∧ Cond.code y cc nL ret ∈ lw_all ∧ Cond.initialized y.cls ∈ lw_all ∧ plainFor y = true
def zz_YV (y : MethodName) (cc : ByteArray) (nL : Nat) (ret : Option FieldType) (n : Nat) : Prop := zz_Y y cc nL ret n ∧ Cond.instanceMethod y ∈ lw_all ∧ Cond.selects y.cls y y ∈ lw_all
def zz_YS (y : MethodName) (cc : ByteArray) (nL : Nat) (ret : Option FieldType) (n : Nat) : Prop := zz_Y y cc nL ret n ∧ Cond.static y ∈ lw_all
def zz_YI (y : MethodName) (cc : ByteArray) (nL : Nat) (n : Nat) : Prop := zz_Y y cc nL none n ∧ Cond.instanceMethod y ∈ lw_all ∧ y.name = "<init>"
section ZZ
variable {D : va_G} {b0 : Nat} {p : Program} {l : Launch} {e : Env} {R : Room} {s : State} {m : MethodId} {args : Array Value} {below : List Frame} {meth : Method} {c : Code} {Q : State → Prop} {cs ss : Nat} {h : zz_H} {lo : List (Nat × Value)} {y : MethodName} {cc : ByteArray} {nL : Nat} {ret : Option FieldType} {pc : Nat} {st : List Value}
variable {y2 x2 : MethodName} {cc2 : ByteArray} {nL2 n fr lc mc ms index : Nat} {ret2 : Option FieldType} {as rest : List Value} {own : String} {post : Option Value → zz_H → Prop} {b : Nat}

theorem zz_callS (C : zz_C D b0 y cc nL ret p s m args meth c) (Y : zz_YS y2 cc2 nL2 ret2 n) (M : zz_Ct l D b0 y2 cc2 nL2 ret2 fr lc mc ms as h post) (ho : y.cls = own) (hl0 : Cond.methodLink own index y2 ∈ lw_all) (hfr : Nat.ble (fr + 1) R.frames = true) (hlc : Nat.ble (8 + (nL2 + 11) + lc) R.locals = true) (hn : as.length = n) (hst : st = as.reverse ++ rest) (hW : Nat.ble ((rest.map fun v => v.category).sum) 8 = true) (hdg : decode cc pc = .ok (.invokestatic index, 3)) (hcap : cs + mc ≤ R.cells ∧ ss + ms ≤ R.slots) (kk : ∀ (v : Option Value) (h2 : zz_H), post v h2 → zz_V D b0 nL p l e R s m args below meth c Q (cs + mc) (ss + ms) h2 lo (pc + 3) (zz_push v rest)) : zz_V D b0 nL p l e R s m args below meth c Q cs ss h lo pc st := by
  intro H locs la hP hS hl
  refine zz_ran (va_runS (As := as) (rest := rest) (zz_fix C ho) M (va_cwS n C.2.2.2.2.1 (lw_S hl0 Y.2 Y.1.2.2.1 Y.1.2.1) rfl rfl rfl Y.1.1 ⟨Nat.le_of_ble_eq_true hfr, Nat.le_of_ble_eq_true hlc⟩) ⟨zz_blind, zz_pre C hP hS as⟩ rfl hn hl.1 hst (zz_w8 hW) hdg hcap) hS hl rfl kk
theorem zz_callV (C : zz_C D b0 y cc nL ret p s m args meth c) {T : u_T} {N ci : Nat} {fs : List Value} (Y : zz_YV y2 cc2 nL2 ret2 n) (M : zz_Ct l D b0 y2 cc2 nL2 ret2 fr lc mc ms (.ref b :: as) h post) (ho : y.cls = own) (hl0 : Cond.methodLink own index y2 ∈ lw_all) (hh : h b = some (.inr (ci, fs))) (hc : zz_cl[ci]? = some (y2.cls, T, N)) (hfr : Nat.ble (fr + 1) R.frames = true) (hlc : Nat.ble (8 + (nL2 + 11) + lc) R.locals = true) (hn : as.length = n) (hst : st = as.reverse ++ .ref b :: rest) (hW : Nat.ble ((rest.map fun v => v.category).sum) 8 = true) (hdg : decode cc pc = .ok (.invokevirtual index, 3)) (hcap : cs + mc ≤ R.cells ∧ ss + ms ≤ R.slots) (kk : ∀ (v : Option Value) (h2 : zz_H), post v h2 → zz_V D b0 nL p l e R s m args below meth c Q (cs + mc) (ss + ms) h2 lo (pc + 3) (zz_push v rest)) : zz_V D b0 nL p l e R s m args below meth c Q cs ss h lo pc st := by
  intro H locs la hP hS hl
  refine zz_ran (va_runV (As := as) (rest := rest) (C := y2.cls) (zz_fix C ho) M (cwV n C.2.2.2.2.1 (lw_V hl0 Y.2.1 Y.2.2 Y.1.2.2.1 Y.1.2.1) rfl rfl rfl ⟨rfl, Y.1.1⟩ ⟨Nat.le_of_ble_eq_true hfr, Nat.le_of_ble_eq_true hlc⟩) ⟨zz_blind, va_recv C.2.2.2.2.2.2.2.2.2.1 (zz_one hP hh) hc (q0 := 0) rfl, zz_pre C hP hS (.ref b :: as)⟩ rfl hn hl.1 hst (zz_w8 hW) hdg hcap) hS hl rfl kk
theorem zz_callI (C : zz_C D b0 y cc nL ret p s m args meth c) (Y : zz_YI y2 cc2 nL2 n) (M : zz_Ct l D b0 y2 cc2 nL2 none fr lc mc ms (.ref b :: as) h post) (ho : y.cls = own) (hl0 : Cond.methodLink own index y2 ∈ lw_all) (hfr : Nat.ble (fr + 1) R.frames = true) (hlc : Nat.ble (8 + (nL2 + 11) + lc) R.locals = true) (hn : as.length = n) (hst : st = as.reverse ++ .ref b :: rest) (hW : Nat.ble ((rest.map fun v => v.category).sum) 8 = true) (hdg : decode cc pc = .ok (.invokespecial index, 3)) (hcap : cs + mc ≤ R.cells ∧ ss + ms ≤ R.slots) (kk : ∀ (v : Option Value) (h2 : zz_H), post v h2 → zz_V D b0 nL p l e R s m args below meth c Q (cs + mc) (ss + ms) h2 lo (pc + 3) (zz_push v rest)) : zz_V D b0 nL p l e R s m args below meth c Q cs ss h lo pc st := by
  intro H locs la hP hS hl
  refine zz_ran (va_runI (As := as) (rest := rest) (zz_fix C ho) M (cwI n C.2.2.2.2.1 (lw_meth Y.1.2.1) rfl rfl rfl (C.2.2.2.2.1 _ Y.1.2.2.1) (C.2.2.2.2.1 _ hl0) (C.2.2.2.2.1 _ Y.2.1) Y.2.2 Y.1.1 ⟨Nat.le_of_ble_eq_true hfr, Nat.le_of_ble_eq_true hlc⟩) ⟨zz_blind, zz_pre C hP hS (.ref b :: as)⟩ rfl hn hl.1 hst (zz_w8 hW) hdg hcap) hS hl rfl kk
/-- a nest mate's constructor, a nest mate's static method -/
theorem zz_callIN (C : zz_C D b0 y cc nL ret p s m args meth c) {host : String} (Y : zz_YI y2 cc2 nL2 n) (M : zz_Ct l D b0 y2 cc2 nL2 none fr lc mc ms (.ref b :: as) h post) (ho : y.cls = own) (hl0 : (own, index, y2, host) ∈ zz_nM) (hfr : Nat.ble (fr + 1) R.frames = true) (hlc : Nat.ble (8 + (nL2 + 11) + lc) R.locals = true) (hn : as.length = n) (hst : st = as.reverse ++ .ref b :: rest) (hW : Nat.ble ((rest.map fun v => v.category).sum) 8 = true) (hdg : decode cc pc = .ok (.invokespecial index, 3)) (hcap : cs + mc ≤ R.cells ∧ ss + ms ≤ R.slots) (kk : ∀ (v : Option Value) (h2 : zz_H), post v h2 → zz_V D b0 nL p l e R s m args below meth c Q (cs + mc) (ss + ms) h2 lo (pc + 3) (zz_push v rest)) : zz_V D b0 nL p l e R s m args below meth c Q cs ss h lo pc st := by
  intro H locs la hP hS hl
  refine zz_ran (va_runIN (As := as) (rest := rest) (zz_fix C ho) M ⟨va_cnB n C.2.2.2.2.1 (lw_meth Y.1.2.1) rfl rfl rfl (C.2.2.2.2.2.2.2.2.2.2.1.2.1 _ hl0) (C.2.2.2.2.1 _ Y.1.2.2.1) Y.1.1 ⟨Nat.le_of_ble_eq_true hfr, Nat.le_of_ble_eq_true hlc⟩, Y.2.2, C.2.2.2.2.1 _ Y.2.1⟩ ⟨zz_blind, zz_pre C hP hS (.ref b :: as)⟩ rfl hn hl.1 hst (zz_w8 hW) hdg hcap) hS hl rfl kk
theorem zz_callSN (C : zz_C D b0 y cc nL ret p s m args meth c) {host : String} (Y : zz_YS y2 cc2 nL2 ret2 n) (M : zz_Ct l D b0 y2 cc2 nL2 ret2 fr lc mc ms as h post) (ho : y.cls = own) (hl0 : (own, index, y2, host) ∈ zz_nM) (hfr : Nat.ble (fr + 1) R.frames = true) (hlc : Nat.ble (8 + (nL2 + 11) + lc) R.locals = true) (hn : as.length = n) (hst : st = as.reverse ++ rest) (hW : Nat.ble ((rest.map fun v => v.category).sum) 8 = true) (hdg : decode cc pc = .ok (.invokestatic index, 3)) (hcap : cs + mc ≤ R.cells ∧ ss + ms ≤ R.slots) (kk : ∀ (v : Option Value) (h2 : zz_H), post v h2 → zz_V D b0 nL p l e R s m args below meth c Q (cs + mc) (ss + ms) h2 lo (pc + 3) (zz_push v rest)) : zz_V D b0 nL p l e R s m args below meth c Q cs ss h lo pc st := by
  intro H locs la hP hS hl
  refine zz_ran (va_runSN (As := as) (rest := rest) (zz_fix C ho) M ⟨va_cnB n C.2.2.2.2.1 (lw_meth Y.1.2.1) rfl rfl rfl (C.2.2.2.2.2.2.2.2.2.2.1.2.1 _ hl0) (C.2.2.2.2.1 _ Y.1.2.2.1) Y.1.1 ⟨Nat.le_of_ble_eq_true hfr, Nat.le_of_ble_eq_true hlc⟩, C.2.2.2.2.1 _ Y.2, trivial⟩ ⟨zz_blind, zz_pre C hP hS as⟩ rfl hn hl.1 hst (zz_w8 hW) hdg hcap) hS hl rfl kk
/-- a method of a superclass, called on an object of class Cn by the name x2 -/
theorem zz_callU (C : zz_C D b0 y cc nL ret p s m args meth c) {Cn owner : String} {T : u_T} {N ci : Nat} {fs : List Value} (Y : zz_Y y2 cc2 nL2 ret2 n) (M : zz_Ct l D b0 y2 cc2 nL2 ret2 fr lc mc ms (.ref b :: as) h post) (ho : y.cls = own) (hl0 : Cond.methodLink own index x2 ∈ lw_all) (hsm : Cond.sameMethod x2.cls owner x2.name x2.desc ∈ lw_all) (hse : Cond.selects Cn x2 y2 ∈ lw_all) (hin : Cond.instanceMethod y2 ∈ lw_all) (hyx : y2 = ⟨owner, x2.name, x2.desc⟩) (hd : owner ≠ "java/lang/invoke/MethodHandle" ∧ owner ≠ "java/lang/invoke/VarHandle" ∧ (parseMethodDescriptor x2.desc).map (fun d => d.parameters.length) = some n) (hh : h b = some (.inr (ci, fs))) (hc : zz_cl[ci]? = some (Cn, T, N)) (hfr : Nat.ble (fr + 1) R.frames = true) (hlc : Nat.ble (8 + (nL2 + 11) + lc) R.locals = true) (hn : as.length = n) (hst : st = as.reverse ++ .ref b :: rest) (hW : Nat.ble ((rest.map fun v => v.category).sum) 8 = true) (hdg : decode cc pc = .ok (.invokevirtual index, 3)) (hcap : cs + mc ≤ R.cells ∧ ss + ms ≤ R.slots) (kk : ∀ (v : Option Value) (h2 : zz_H), post v h2 → zz_V D b0 nL p l e R s m args below meth c Q (cs + mc) (ss + ms) h2 lo (pc + 3) (zz_push v rest)) : zz_V D b0 nL p l e R s m args below meth c Q cs ss h lo pc st := by
  intro H locs la hP hS hl
  have hT : GoodIn lw_all (va_wsU own index Cn owner x2 y2 (ws_ y2 cc2 nL2 ret2)) := by
    refine lw_app ?_ (lw_meth Y.2.1)
    intro w hw
    simp only [List.mem_cons, List.not_mem_nil, or_false] at hw
    rcases hw with e | e | e | e | e
    · rw [e]; exact hl0
    · rw [e]; exact hsm
    · rw [e]; exact hse
    · rw [e]; exact hin
    · rw [e]; exact Y.2.2.1
  refine zz_ran (va_runU (As := as) (rest := rest) (C := Cn) (zz_fix C ho) M (va_cwU n C.2.2.2.2.1 hT rfl rfl rfl hyx hd ⟨Nat.le_of_ble_eq_true hfr, Nat.le_of_ble_eq_true hlc⟩) ⟨zz_blind, va_recv C.2.2.2.2.2.2.2.2.2.1 (zz_one hP hh) hc (q0 := 0) rfl, zz_pre C hP hS (.ref b :: as)⟩ rfl hn hl.1 hst (zz_w8 hW) hdg hcap) hS hl rfl kk
/-- super.y2(..) -/
theorem zz_callSU (C : zz_C D b0 y cc nL ret p s m args meth c) {Cn : String} {T : u_T} {N ci : Nat} {fs : List Value} (Y : zz_Y y2 cc2 nL2 ret2 n) (M : zz_Ct l D b0 y2 cc2 nL2 ret2 fr lc mc ms (.ref b :: as) h post) (ho : y.cls = own) (hl0 : Cond.methodLink own index y2 ∈ lw_all) (hsm : Cond.sameMethod y2.cls y2.cls y2.name y2.desc ∈ lw_all) (hsu : Cond.superclass own y2.cls ∈ lw_all) (hin : Cond.instanceMethod y2 ∈ lw_all) (hni : y2.name ≠ "<init>") (hh : h b = some (.inr (ci, fs))) (hc : zz_cl[ci]? = some (Cn, T, N)) (hfr : Nat.ble (fr + 1) R.frames = true) (hlc : Nat.ble (8 + (nL2 + 11) + lc) R.locals = true) (hn : as.length = n) (hst : st = as.reverse ++ .ref b :: rest) (hW : Nat.ble ((rest.map fun v => v.category).sum) 8 = true) (hdg : decode cc pc = .ok (.invokespecial index, 3)) (hcap : cs + mc ≤ R.cells ∧ ss + ms ≤ R.slots) (kk : ∀ (v : Option Value) (h2 : zz_H), post v h2 → zz_V D b0 nL p l e R s m args below meth c Q (cs + mc) (ss + ms) h2 lo (pc + 3) (zz_push v rest)) : zz_V D b0 nL p l e R s m args below meth c Q cs ss h lo pc st := by
  intro H locs la hP hS hl
  have hT : GoodIn lw_all (va_wsSU own index y2 (ws_ y2 cc2 nL2 ret2)) := by
    refine lw_app ?_ (lw_meth Y.2.1)
    intro w hw
    simp only [List.mem_cons, List.not_mem_nil, or_false] at hw
    rcases hw with e | e | e | e | e
    · rw [e]; exact hl0
    · rw [e]; exact hsm
    · rw [e]; exact hsu
    · rw [e]; exact hin
    · rw [e]; exact Y.2.2.1
  refine zz_ran (va_runSU (As := as) (rest := rest) (C := Cn) ((C.2.2.2.2.2.2.2.2.2.1).1 ci _ hc).2 (zz_fix C ho) M (va_cwSU n C.2.2.2.2.1 hT rfl rfl rfl ⟨hni, Y.1.2.2⟩ ⟨Nat.le_of_ble_eq_true hfr, Nat.le_of_ble_eq_true hlc⟩) ⟨zz_blind, va_recv C.2.2.2.2.2.2.2.2.2.1 (zz_one hP hh) hc (q0 := 0) rfl, zz_pre C hP hS (.ref b :: as)⟩ rfl hn hl.1 hst (zz_w8 hW) hdg hcap) hS hl rfl kk
/-- through an interface -/
theorem zz_callF (C : zz_C D b0 y cc nL ret p s m args meth c) {count : Nat} {T : u_T} {N ci : Nat} {fs : List Value} (Y : zz_Y y2 cc2 nL2 ret2 n) (M : zz_Ct l D b0 y2 cc2 nL2 ret2 fr lc mc ms (.ref b :: as) h post) (ho : y.cls = own) (hl0 : Cond.methodLink own index x2 ∈ lw_all) (hse : Cond.selects y2.cls x2 y2 ∈ lw_all) (hin : Cond.instanceMethod y2 ∈ lw_all) (hF : (y2.cls, x2, y2) ∈ zz_nI) (hd : x2.cls ≠ "java/lang/invoke/MethodHandle" ∧ x2.cls ≠ "java/lang/invoke/VarHandle" ∧ (parseMethodDescriptor x2.desc).map (fun d => d.parameters.length) = some n) (hh : h b = some (.inr (ci, fs))) (hc : zz_cl[ci]? = some (y2.cls, T, N)) (hfr : Nat.ble (fr + 1) R.frames = true) (hlc : Nat.ble (8 + (nL2 + 11) + lc) R.locals = true) (hn : as.length = n) (hst : st = as.reverse ++ .ref b :: rest) (hW : Nat.ble ((rest.map fun v => v.category).sum) 8 = true) (hdg : decode cc pc = .ok (.invokeinterface index count, 5)) (hcap : cs + mc ≤ R.cells ∧ ss + ms ≤ R.slots) (kk : ∀ (v : Option Value) (h2 : zz_H), post v h2 → zz_V D b0 nL p l e R s m args below meth c Q (cs + mc) (ss + ms) h2 lo (pc + 5) (zz_push v rest)) : zz_V D b0 nL p l e R s m args below meth c Q cs ss h lo pc st := by
  intro H locs la hP hS hl
  have hT : GoodIn lw_all (va_wsF own index y2.cls x2 y2 (ws_ y2 cc2 nL2 ret2)) := by
    refine lw_app ?_ (lw_meth Y.2.1)
    intro w hw
    simp only [List.mem_cons, List.not_mem_nil, or_false] at hw
    rcases hw with e | e | e | e
    · rw [e]; exact hl0
    · rw [e]; exact hse
    · rw [e]; exact hin
    · rw [e]; exact Y.2.2.1
  have hr := va_runF (p := p) (l := l) (e := e) (R := R) (below := below) (meth := meth) (H := H) (locs := locs) (cells := cs) (slots := ss) (g := F0 m pc la st) (As := as) (rest := rest) (C := y2.cls) ((C.2.2.2.2.2.2.2.2.2.1).1 ci _ hc).2 (zz_fix C ho) M (va_cwF n C.2.2.2.2.1 hT rfl rfl rfl (C.2.2.2.2.2.2.2.2.2.2.1.2.2.2.1 _ hF) hd ⟨Nat.le_of_ble_eq_true hfr, Nat.le_of_ble_eq_true hlc⟩) ⟨zz_blind, va_recv C.2.2.2.2.2.2.2.2.2.1 (zz_one hP hh) hc (q0 := 0) rfl, zz_pre C hP hS (.ref b :: as)⟩ rfl hn hl.1 hst (zz_w8 hW) hdg hcap
  intro T hT X
  obtain ⟨v, st₀, t, T', L, h0, X', hL, e1, e2, ⟨⟨v', h', hv, hp, hb⟩, hz, hk⟩, st⟩ := hr T hT X
  cases hv
  rw [h0] at hz hk
  have hS1 : va_S (fun q => b0 ≤ q) s.heap T'.heap (locs ++ L) := ⟨Nat.le_trans hS.1 (by rw [e1]; exact hz), fun q h1 h2 => by rw [e1, hk q (Nat.lt_of_lt_of_le h1 hS.1) h2]; exact hS.2.1 q h1 h2, fun q hq => by
    rcases List.mem_append.mp hq with h | h
    · exact hS.2.2 q h
    · exact hL q h⟩
  obtain ⟨t2, a1, b1⟩ := kk v h' hp T'.heap (locs ++ L) la (by rw [e1]; exact hb) hS1 hl T' rfl X'
  refine ⟨t2, st t2 ?_, b1⟩
  cases v <;> exact a1

/-! the end of a method -/
theorem zz_end {v : Option Value} {H : Heap} {locs : List Loc} {h2 : zz_H} (hp : post v h2) (hP : zz_P D b0 h2 H) (hS : va_S (fun q => b0 ≤ q) s.heap H locs) : ∀ t : State, t.heap = H → s.WarmedH t.vm → zz_Q D b0 post args s (.returned v) t := fun t ht _ => ⟨⟨v, h2, rfl, hp, by rw [ht]; exact hP⟩, hS.F ht⟩

theorem zz_iret (C : zz_C D b0 y cc nL (some .int) p s m args meth c) {x : Int32} (hdg : decode cc pc = .ok (.ireturn, 1)) (h1 : Nat.ble cs mc = true) (h2 : Nat.ble ss ms = true) (hp : post (some (.int x)) h) : zz_V D b0 nL p l e R s m args below meth c (MQ below (zz_Q D b0 post) args s mc ms (fun q => b0 ≤ q)) cs ss h lo pc [.int x] := fun H locs la hP hS hl => W.widen (Nat.le_of_ble_eq_true h1) (Nat.le_of_ble_eq_true h2) (W.iret C.1 C.2.1 C.2.2.2.2.2.1 (zz_end hp hP hS) hS.2.2 hdg C.2.2.2.2.2.2.1)
theorem zz_zret0 {ty : FieldType} (C : zz_C D b0 y cc nL (some ty) p s m args meth c) {x : Int32} (hn : narrow ty (.int x) = .int x) (hdg : decode cc pc = .ok (.ireturn, 1)) (h1 : Nat.ble cs mc = true) (h2 : Nat.ble ss ms = true) (hp : post (some (.int x)) h) : zz_V D b0 nL p l e R s m args below meth c (MQ below (zz_Q D b0 post) args s mc ms (fun q => b0 ≤ q)) cs ss h lo pc [.int x] := fun H locs la hP hS hl => W.widen (Nat.le_of_ble_eq_true h1) (Nat.le_of_ble_eq_true h2) (W.zret C.1 C.2.1 C.2.2.2.2.2.1 hn (zz_end hp hP hS) hS.2.2 hdg C.2.2.2.2.2.2.1)
theorem zz_narZ {x : Int32} (hx : x = 0 ∨ x = 1) : narrow .boolean (.int x) = .int x := by
  rcases hx with rfl | rfl <;> decide
theorem zz_lret (C : zz_C D b0 y cc nL (some .long) p s m args meth c) {x : Int64} (hdg : decode cc pc = .ok (.lreturn, 1)) (h1 : Nat.ble cs mc = true) (h2 : Nat.ble ss ms = true) (hp : post (some (.long x)) h) : zz_V D b0 nL p l e R s m args below meth c (MQ below (zz_Q D b0 post) args s mc ms (fun q => b0 ≤ q)) cs ss h lo pc [.long x] := fun H locs la hP hS hl => W.widen (Nat.le_of_ble_eq_true h1) (Nat.le_of_ble_eq_true h2) (W.lret C.1 C.2.1 C.2.2.2.2.2.1 (zz_end hp hP hS) hS.2.2 hdg C.2.2.2.2.2.2.1)
theorem zz_fret (C : zz_C D b0 y cc nL (some .float) p s m args meth c) {x : UInt32} (hdg : decode cc pc = .ok (.freturn, 1)) (h1 : Nat.ble cs mc = true) (h2 : Nat.ble ss ms = true) (hp : post (some (.float x)) h) : zz_V D b0 nL p l e R s m args below meth c (MQ below (zz_Q D b0 post) args s mc ms (fun q => b0 ≤ q)) cs ss h lo pc [.float x] := fun H locs la hP hS hl => W.widen (Nat.le_of_ble_eq_true h1) (Nat.le_of_ble_eq_true h2) (W.fret C.1 C.2.1 C.2.2.2.2.2.1 (zz_end hp hP hS) hS.2.2 hdg C.2.2.2.2.2.2.1)
theorem zz_vret (C : zz_C D b0 y cc nL (none) p s m args meth c) (hdg : decode cc pc = .ok (.return_, 1)) (h1 : Nat.ble cs mc = true) (h2 : Nat.ble ss ms = true) (hp : post (none) h) : zz_V D b0 nL p l e R s m args below meth c (MQ below (zz_Q D b0 post) args s mc ms (fun q => b0 ≤ q)) cs ss h lo pc [] := fun H locs la hP hS hl => W.widen (Nat.le_of_ble_eq_true h1) (Nat.le_of_ble_eq_true h2) (W.vret C.1 C.2.1 C.2.2.2.2.2.1 (zz_end hp hP hS) hS.2.2 hdg C.2.2.2.2.2.2.1)
theorem zz_aret {rt : FieldType} (C : zz_C D b0 y cc nL (some rt) p s m args meth c) {v : Value} (hrt : (∃ n, rt = .object n) ∨ ∃ t, rt = .array t) (hv : v = .null ∨ ∃ a, v = .ref a) (hdg : decode cc pc = .ok (.areturn, 1)) (h1 : Nat.ble cs mc = true) (h2 : Nat.ble ss ms = true) (hp : post (some v) h) : zz_V D b0 nL p l e R s m args below meth c (MQ below (zz_Q D b0 post) args s mc ms (fun q => b0 ≤ q)) cs ss h lo pc [v] := fun H locs la hP hS hl => W.widen (Nat.le_of_ble_eq_true h1) (Nat.le_of_ble_eq_true h2) (W.aret C.1 C.2.1 C.2.2.2.2.2.1 hrt hv (zz_end hp hP hS) hS.2.2 hdg C.2.2.2.2.2.2.1)
end ZZ
/-- a contract out of the walk of its body -/
theorem zz_Ct.of {l : Launch} {D : va_G} {b0 : Nat} {y : MethodName} {cc : ByteArray} {nL : Nat} {ret : Option FieldType} {n fr lc mc ms : Nat} {as : List Value} {h : zz_H} {post : Option Value → zz_H → Prop} (Y : zz_Y y cc nL ret n) (hs : Nat.ble (lg_sl as).length nL = true)
    (body : ∀ p e s m below meth c, zz_C D b0 y cc nL ret p s m as.toArray meth c → zz_V D b0 nL p l e ({ frames := fr, cells := mc, slots := ms, locals := lc } : Jvm.Room) s m as.toArray below meth c (MQ below (zz_Q D b0 post) as.toArray s mc ms (fun q => b0 ≤ q)) 0 0 h (lv_args 0 as) 0 []) : zz_Ct l D b0 y cc nL ret fr lc mc ms as h post := by
  refine va_MetF (cc := cc) (maxL := nL) (ret := ret) Y.2.2.2 rfl ?_
  intro p e s m args below meth c s₁ B hml hv
  obtain ⟨rfl, hK, hb0, hP⟩ := hv
  have hts := atoms_spec (ws := ws_ y cc nL ret) B.pre
  have hts : ∀ w ∈ lw_all, w.before as.toArray s = true := fun w h => hts w (List.mem_cons_of_mem _ h)
  have C : zz_C D b0 y cc nL ret p s m as.toArray meth c := ⟨B.exec, B.bytes, hml, findClass_of_methodNamed B.named, hts, B.returns, B.notSynchronized, (name_of_methodNamed B.named B.method).1, hb0, hK⟩
  rw [lg_entry_eq]
  exact body p e s m below meth c C s.heap [] _ hP va_S.rf (lv_entry as (Nat.le_of_ble_eq_true hs))
/-- from what the callee says to what the caller wants -/
theorem zz_Ct.post {l : Launch} {D : va_G} {b0 : Nat} {y : MethodName} {cc : ByteArray} {nL : Nat} {ret : Option FieldType} {fr lc mc ms : Nat} {as : List Value} {h : zz_H} {post post2 : Option Value → zz_H → Prop} (M : zz_Ct l D b0 y cc nL ret fr lc mc ms as h post) (hp : ∀ v h', post v h' → post2 v h') : zz_Ct l D b0 y cc nL ret fr lc mc ms as h post2 := by
  intro p e ha hc hk s m args below h1 h2 h3 h4
  obtain ⟨k, o, g1, g2, g3, ⟨⟨v, h', a1, a2, a3⟩, a4⟩, g5⟩ := M p e ha hc hk s m args below h1 h2 h3 h4
  exact ⟨k, o, g1, g2, g3, ⟨⟨v, h', a1, hp v h' a2, a3⟩, a4⟩, g5⟩
