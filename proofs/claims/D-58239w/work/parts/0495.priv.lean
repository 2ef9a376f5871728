/-! a private method of a superclass -/
section ZZ
variable {D : va_G} {b0 : Nat} {p : Program} {l : Launch} {e : Env} {R : Room} {s : State} {m : MethodId} {args : Array Value} {below : List Frame} {meth : Method} {c : Code} {Q : State → Prop} {cs ss : Nat} {h : zz_H} {lo : List (Nat × Value)} {y : MethodName} {cc : ByteArray} {nL : Nat} {ret : Option FieldType} {pc : Nat} {st : List Value}
variable {y2 x2 : MethodName} {cc2 : ByteArray} {nL2 n fr lc mc ms index : Nat} {ret2 : Option FieldType} {as rest : List Value} {own : String} {post : Option Value → zz_H → Prop} {b : Nat}
theorem zz_callP (C : zz_C D b0 y cc nL ret p s m args meth c) {Cn owner : String} {T : u_T} {N ci : Nat} {fs : List Value} (Y : zz_Y y2 cc2 nL2 ret2 n) (M : zz_Ct l D b0 y2 cc2 nL2 ret2 fr lc mc ms (.ref b :: as) h post) (ho : y.cls = own) (hl0 : Cond.methodLink own index x2 ∈ lw_all) (hsm : Cond.sameMethod x2.cls owner x2.name x2.desc ∈ lw_all) (hse : Cond.selects Cn x2 y2 ∈ zz_nP) (hin : Cond.instanceMethod y2 ∈ lw_all) (hyx : y2 = ⟨owner, x2.name, x2.desc⟩) (hd : owner ≠ "java/lang/invoke/MethodHandle" ∧ owner ≠ "java/lang/invoke/VarHandle" ∧ (parseMethodDescriptor x2.desc).map (fun d => d.parameters.length) = some n) (hh : h b = some (.inr (ci, fs))) (hc : zz_cl[ci]? = some (Cn, T, N)) (hfr : Nat.ble (fr + 1) R.frames = true) (hlc : Nat.ble (8 + (nL2 + 11) + lc) R.locals = true) (hn : as.length = n) (hst : st = as.reverse ++ .ref b :: rest) (hW : Nat.ble ((rest.map fun v => v.category).sum) 8 = true) (hdg : decode cc pc = .ok (.invokevirtual index, 3)) (hcap : cs + mc ≤ R.cells ∧ ss + ms ≤ R.slots) (kk : ∀ (v : Option Value) (h2 : zz_H), post v h2 → zz_V D b0 nL p l e R s m args below meth c Q (cs + mc) (ss + ms) h2 lo (pc + 3) (zz_push v rest)) : zz_V D b0 nL p l e R s m args below meth c Q cs ss h lo pc st := by
  intro H locs la hP hS hl
  have hse1 : (Cond.selects Cn x2 y2).before args s = true := word_at (State.WarmedH.refl s) (good_of_word (zz_nP_ok _ hse)) (C.2.2.2.2.2.2.2.2.2.2.1.2.2.2.2.2.2.2.2 _ hse)
  have hG0 : ∀ w ∈ Cond.selects Cn x2 y2 :: lw_all, w.before args s = true := by
    intro w hw
    rcases List.mem_cons.mp hw with e | hw
    · rw [e]; exact hse1
    · exact C.2.2.2.2.1 _ hw
  have up : ∀ w ∈ lw_all, w ∈ Cond.selects Cn x2 y2 :: lw_all ∧ ((w.onTables && w.keeps) = true ∨ ∃ ty, w = .arrayClass ty) := fun w hw => ⟨List.mem_cons_of_mem _ hw, (lw_self w hw).2⟩
  have hT : GoodIn (Cond.selects Cn x2 y2 :: lw_all) (va_wsU own index Cn owner x2 y2 (ws_ y2 cc2 nL2 ret2)) := by
    intro w hw
    unfold va_wsU at hw
    rcases List.mem_append.mp hw with hw | hw
    · simp only [List.mem_cons, List.not_mem_nil, or_false] at hw
      rcases hw with e | e | e | e | e
      · rw [e]; exact up _ hl0
      · rw [e]; exact up _ hsm
      · rw [e]; exact ⟨List.mem_cons_self, good_of_word (zz_nP_ok _ hse)⟩
      · rw [e]; exact up _ hin
      · rw [e]; exact up _ Y.2.2.1
    · have h1 := lw_meth Y.2.1 w hw
      exact ⟨List.mem_cons_of_mem _ h1.1, h1.2⟩
  refine zz_ran (va_runU (As := as) (rest := rest) (C := Cn) ⟨C.1, C.2.1, C.2.2.1, zz_own C ho, hG0⟩ M (va_cwU n hG0 hT rfl rfl rfl hyx hd ⟨Nat.le_of_ble_eq_true hfr, Nat.le_of_ble_eq_true hlc⟩) ⟨zz_blind, va_recv C.2.2.2.2.2.2.2.2.2.1 (zz_one hP hh) hc (q0 := 0) rfl, zz_pre C hP hS (.ref b :: as)⟩ rfl hn hl.1 hst (zz_w8 hW) hdg hcap) hS hl rfl kk
end ZZ
