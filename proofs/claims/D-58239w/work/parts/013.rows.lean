/-! small rows over the abstract heap; numbers -/
theorem zz_xi {h : zz_H} {x s : Nat} {o : Nat × List Value} {a0 : ClassId × vp_A} (h1 : h x = some (.inr o)) (h2 : h s = some (.inl a0)) : x ≠ s := fun q => by rw [q, h2] at h1; cases h1
theorem zz_ix {h : zz_H} {x s : Nat} {o : Nat × List Value} {a0 : ClassId × vp_A} (h1 : h x = some (.inl a0)) (h2 : h s = some (.inr o)) : x ≠ s := fun q => by rw [q, h2] at h1; cases h1
theorem zz_cc {h : zz_H} {x s c1 c2 : Nat} {f1 f2 : List Value} (h1 : h x = some (.inr (c1, f1))) (h2 : h s = some (.inr (c2, f2))) (hc : c1 ≠ c2) : x ≠ s := fun q => by
  rw [q, h2] at h1
  cases h1
  exact hc rfl
theorem zz_lk1 {h : zz_H} {x s : Nat} {o : Nat × List Value} {a0 : ClassId × vp_A} {e : va_E} (h1 : h x = some (.inr o)) (h2 : h s = some (.inl a0)) : zz_up h s e x = some (.inr o) := (zz_un (zz_xi h1 h2)).trans h1
theorem zz_lk2 {h : zz_H} {x s : Nat} {o : Nat × List Value} {a0 : ClassId × vp_A} {e : va_E} (h1 : h x = some (.inl a0)) (h2 : h s = some (.inr o)) : zz_up h s e x = some (.inl a0) := (zz_un (zz_ix h1 h2)).trans h1
theorem zz_lk3 {h : zz_H} {x s : Nat} {e e0 : va_E} (hne : x ≠ s) (h1 : h x = some e0) : zz_up h s e x = some e0 := (zz_un hne).trans h1
theorem zz_upup {h : zz_H} {a : Nat} {e e' : va_E} : zz_up (zz_up h a e) a e' = zz_up h a e' := by
  funext x
  by_cases hx : x = a
  · subst hx; rw [zz_us, zz_us]
  · rw [zz_un hx, zz_un hx, zz_un hx]
theorem zz_upsame {h : zz_H} {a : Nat} {e : va_E} (hh : h a = some e) : zz_up h a e = h := by
  funext x
  by_cases hx : x = a
  · subst hx; rw [zz_us, hh]
  · rw [zz_un hx]
theorem zz_upswap {h : zz_H} {a b : Nat} {e e' : va_E} (hab : a ≠ b) : zz_up (zz_up h a e) b e' = zz_up (zz_up h b e') a e := by
  funext x
  by_cases hx : x = a
  · subst hx; rw [zz_un hab, zz_us, zz_us]
  · rw [zz_un (h := zz_up h b e') hx]
    by_cases hb : x = b
    · subst hb; rw [zz_us, zz_us]
    · rw [zz_un hb, zz_un hb, zz_un hx]
section ZZ
variable {D : va_G} {b0 : Nat} {p : Program} {l : Launch} {e : Env} {R : Room} {s : State} {m : MethodId} {args : Array Value} {below : List Frame} {meth : Method} {c : Code} {Q : State → Prop} {cs ss : Nat} {h : zz_H} {lo : List (Nat × Value)} {y : MethodName} {cc : ByteArray} {nL : Nat} {ret : Option FieldType} {pc : Nat} {st : List Value}
theorem zz_iast2 (C : zz_C D b0 y cc nL ret p s m args meth c) {a n : Nat} {f : Nat → Int32} {i x : Int32} {j : Nat} (hi : i = nI j) (hj : j < n) (hn : n ≤ 2147483647) (hdg : decode cc pc = .ok (.iastore, 1)) (kk : zz_V D b0 nL p l e R s m args below meth c Q cs ss (zz_up h a (.inl (D.1 100, n, .inl (upd f j x)))) lo (pc + 1) st) : zz_V D b0 nL p l e R s m args below meth c Q cs ss (zz_up h a (.inl (D.1 100, n, .inl f))) lo pc (.int x :: .int i :: .ref a :: st) :=
  zz_iast C zz_us hi hj hn hdg (zz_go kk rfl rfl zz_upup rfl rfl rfl)
/-- a join: what is shown once at a place is used by every way that comes there -/
theorem zz_join {P : Prop} (k : P) (kk : P → zz_V D b0 nL p l e R s m args below meth c Q cs ss h lo pc st) : zz_V D b0 nL p l e R s m args below meth c Q cs ss h lo pc st := kk k
end ZZ
theorem zz_nI0 : (0 : Int32) = nI 0 := rfl
theorem zz_lit (n : Nat) : (Int32.ofNat n) = nI n := rfl
theorem zz_sub1 {n : Nat} : nI (n + 1) - 1 = nI n := nI_pred n
/-- i between 0 and n - 1, as the classes ask it -/
theorem zz_rng {x : Int32} {n : Nat} (hn : n < 2 ^ 31) : (decide (0 ≤ x) && decide (x ≤ nI n - 1)) = true ↔ ∃ j : Nat, j < n ∧ x = nI j := by
  rw [Bool.and_eq_true, decide_eq_true_eq, decide_eq_true_eq]
  constructor
  · rintro ⟨h1, h2⟩
    have h3 : ¬ x < 0 := by rw [Int32.lt_iff_toInt_lt]; rw [Int32.le_iff_toInt_le] at h1; omega
    obtain ⟨j, hj, rfl⟩ := nI_of h3
    rw [Int32.le_iff_toInt_le] at h2
    cases n with
    | zero =>
      exfalso
      have e : nI 0 - 1 = (-1 : Int32) := by decide
      rw [e, nI_toInt hj] at h2
      have e2 : ((-1 : Int32)).toInt = -1 := by decide
      omega
    | succ k =>
      rw [nI_pred, nI_toInt hj, nI_toInt (by omega)] at h2
      exact ⟨j, by omega, rfl⟩
  · rintro ⟨j, hj, rfl⟩
    refine ⟨nI_pos' (by omega), ?_⟩
    obtain ⟨k, rfl⟩ : ∃ k, n = k + 1 := ⟨n - 1, by omega⟩
    rw [nI_pred]
    exact nI_le (by omega) (by omega)
theorem zz_rng' {x : Int32} {n : Nat} (hn : n < 2 ^ 31) (h : (decide (0 ≤ x) && decide (x ≤ nI n - 1)) = true) : ∃ j : Nat, j < n ∧ x = nI j := (zz_rng hn).mp h
section ZZ
variable {D : va_G} {b0 : Nat} {p : Program} {l : Launch} {e : Env} {R : Room} {s : State} {m : MethodId} {args : Array Value} {below : List Frame} {meth : Method} {c : Code} {Q : State → Prop} {cs ss : Nat} {h : zz_H} {lo lo' : List (Nat × Value)} {nL : Nat} {pc pcJ : Nat} {st st0 : List Value}
theorem zz_joinI (E : Int32) (k : ∀ z : Int32, z = E → zz_V D b0 nL p l e R s m args below meth c Q cs ss h lo pcJ (.int z :: st)) (kk : (∀ z : Int32, z = E → zz_V D b0 nL p l e R s m args below meth c Q cs ss h lo pcJ (.int z :: st)) → zz_V D b0 nL p l e R s m args below meth c Q cs ss h lo pc st) : zz_V D b0 nL p l e R s m args below meth c Q cs ss h lo pc st := kk k
theorem zz_joinF (E : UInt32) (k : ∀ z : UInt32, z = E → zz_V D b0 nL p l e R s m args below meth c Q cs ss h lo pcJ (.float z :: st)) (kk : (∀ z : UInt32, z = E → zz_V D b0 nL p l e R s m args below meth c Q cs ss h lo pcJ (.float z :: st)) → zz_V D b0 nL p l e R s m args below meth c Q cs ss h lo pc st) : zz_V D b0 nL p l e R s m args below meth c Q cs ss h lo pc st := kk k
theorem zz_loc2 (k : zz_V D b0 nL p l e R s m args below meth c Q cs ss h lo' pc st) (hs : zz_sub lo' lo) : zz_V D b0 nL p l e R s m args below meth c Q cs ss h lo pc st := zz_loc lo' hs k
end ZZ
theorem zz_c3 {h : zz_H} {p q : Nat} {e1 e2 e3 : va_E} (hpq : p ≠ q) : zz_up (zz_up (zz_up h p e1) q e2) p e3 = zz_up (zz_up h q e2) p e3 := by
  rw [zz_upswap (h := zz_up h p e1) (Ne.symm hpq), zz_upup, zz_upswap hpq]
theorem zz_ift {α : Type} {b : Bool} {x y : α} (h : b = true) : x = if b = true then x else y := (if_pos h).symm
theorem zz_iff {α : Type} {b : Bool} {x y : α} (h : b = false) : y = if b = true then x else y := (if_neg (by rw [h]; decide)).symm
theorem zz_bt {b : Bool} (h : b = true) : (1 : Int32) = zz_b b := by rw [h]; rfl
theorem zz_bf {b : Bool} (h : b = false) : (0 : Int32) = zz_b b := by rw [h]; rfl
theorem zz_tf {b : Bool} (h : b = true) : ¬ b = false := by rw [h]; decide
theorem zz_ixm (a b c : Nat) : nI a * nI b + nI c = nI (a * b + c) := by rw [pk_mul, nI_add]
theorem zz_fitZ (b : Bool) : fits .boolean (.int (zz_b b)) = true := by cases b <;> decide
theorem zz_fit01 {x : Int32} (h : x = 0 ∨ x = 1) : fits .boolean (.int x) = true := by rcases h with rfl | rfl <;> decide
