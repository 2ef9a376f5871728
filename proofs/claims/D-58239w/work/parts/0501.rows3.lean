/-! more rows: natives on numbers, a constant text, a long constant; the set of bits counted -/
section ZZ
variable {D : va_G} {b0 : Nat} {p : Program} {l : Launch} {e : Env} {R : Room} {s : State} {m : MethodId} {args : Array Value} {below : List Frame} {meth : Method} {c : Code} {Q : State → Prop} {cs ss : Nat} {h : zz_H} {lo : List (Nat × Value)} {y : MethodName} {cc : ByteArray} {nL : Nat} {ret : Option FieldType} {pc : Nat} {st : List Value}
variable {y2 x2 : MethodName} {cc2 : ByteArray} {nL2 n fr lc mc ms index : Nat} {ret2 : Option FieldType} {as rest : List Value} {own : String} {post : Option Value → zz_H → Prop} {b : Nat}
theorem zz_ldcw (C : zz_C D b0 y cc nL ret p s m args meth c) {v : Int32} (ho : y.cls = own) (hc : Jvm.Cond.constant own index v ∈ lw_all) (hdg : decode cc pc = .ok (.ldc_w index, 3)) (k : zz_V D b0 nL p l e R s m args below meth c Q cs ss h lo (pc + 3) (.int v :: st)) : zz_V D b0 nL p l e R s m args below meth c Q cs ss h lo pc st := fun H locs la hP hS hl => lv_ldcw C.1 C.2.1 (zz_own C ho) (C.2.2.2.2.1 _ hc) hdg (k H locs la hP hS hl)
theorem zz_f2r (C : zz_C D b0 y cc nL ret p s m args meth c) {v : UInt32} (ho : y.cls = own) (hlink : Cond.methodLink own index ⟨"java/lang/Float", "floatToRawIntBits", "(F)I"⟩ ∈ lw_all) (hdg : decode cc pc = .ok (.invokestatic index, 3)) (hW : Nat.ble ((st.map fun v => v.category).sum) 8 = true) (hf : Nat.ble 1 R.frames = true) (hlo : Nat.ble 60 R.locals = true) (kk : zz_V D b0 nL p l e R s m args below meth c Q cs ss h lo (pc + 3) (.int v.toInt32 :: st)) : zz_V D b0 nL p l e R s m args below meth c Q cs ss h lo pc (.float v :: st) := fun H locs la hP hS hl => by
  have hts := C.2.2.2.2.1
  have hw := Nat.le_of_ble_eq_true hW
  have hl2 := Nat.le_of_ble_eq_true hlo
  exact vn_f2i C.1 C.2.1 (zz_ml C hl) (zz_own C ho) (hts _ hlink) (hts _ q847) (hts _ q846) (hts _ q112) (Nat.le_of_ble_eq_true hf) (by omega) hdg (kk H locs la hP hS hl)
theorem zz_d2r (C : zz_C D b0 y cc nL ret p s m args meth c) {v : UInt64} (ho : y.cls = own) (hlink : Cond.methodLink own index ⟨"java/lang/Double", "doubleToRawLongBits", "(D)J"⟩ ∈ lw_all) (hdg : decode cc pc = .ok (.invokestatic index, 3)) (hW : Nat.ble ((st.map fun v => v.category).sum) 8 = true) (hf : Nat.ble 1 R.frames = true) (hlo : Nat.ble 60 R.locals = true) (kk : zz_V D b0 nL p l e R s m args below meth c Q cs ss h lo (pc + 3) (.long v.toInt64 :: st)) : zz_V D b0 nL p l e R s m args below meth c Q cs ss h lo pc (.double v :: st) := fun H locs la hP hS hl => by
  have hts := C.2.2.2.2.1
  have hw := Nat.le_of_ble_eq_true hW
  have hl2 := Nat.le_of_ble_eq_true hlo
  exact vn_d2l C.1 C.2.1 (zz_ml C hl) (zz_own C ho) (hts _ hlink) (hts _ q882) (hts _ q881) (hts _ q113) (Nat.le_of_ble_eq_true hf) (by omega) hdg (kk H locs la hP hS hl)
/-- the constant text "qcoglnd" -/
theorem zz_ldcS (C : zz_C D b0 y cc nL ret p s m args meth c) (ho : y.cls = RX6) (hdg : decode cc pc = .ok (.ldc 94, 2)) (kk : zz_V D b0 nL p l e R s m args below meth c Q cs ss h lo (pc + 2) (.ref (D.2 1000 4) :: st)) : zz_V D b0 nL p l e R s m args below meth c Q cs ss h lo pc st := fun H locs la hP hS hl => by
  obtain ⟨-, -, -, -, -, -, f1, -⟩ := zz_Cz C
  exact va_ldcS C.1 C.2.1 (zz_own C ho) f1 hdg (kk H locs la hP hS hl)
theorem zz_sO (C : zz_C D b0 y cc nL ret p s m args meth c) : va_O "java/lang/String" (D.2 1000 4) (fun q => b0 ≤ q) s s.heap := by
  obtain ⟨-, -, -, -, -, -, -, f2, -⟩ := zz_Cz C
  exact f2
theorem zz_sCo (C : zz_C D b0 y cc nL ret p s m args meth c) : va_OF "java/lang/String" "coder" "B" (.int 0) (D.2 1000 4) (fun q => b0 ≤ q) s s.heap := by
  obtain ⟨-, -, -, -, -, -, -, -, f3, -⟩ := zz_Cz C
  exact f3
theorem zz_sVa (C : zz_C D b0 y cc nL ret p s m args meth c) : va_OF "java/lang/String" "value" "[B" (.ref (D.2 1000 5)) (D.2 1000 4) (fun q => b0 ≤ q) s s.heap := by
  obtain ⟨-, -, -, -, -, -, -, -, -, f4, -⟩ := zz_Cz C
  exact f4
theorem zz_sTb (C : zz_C D b0 y cc nL ret p s m args meth c) : va_T .byte (D.2 1000 5) 7 zz_fS (fun q => b0 ≤ q) s s.heap := by
  obtain ⟨-, -, -, -, -, -, -, -, -, -, f5, -⟩ := zz_Cz C
  exact f5
/-- a method of the constant text -/
theorem zz_callT (C : zz_C D b0 y cc nL ret p s m args meth c) (Y : zz_YV y2 cc2 nL2 ret2 n) (hy2 : y2.cls = "java/lang/String") (M : zz_Ct l D b0 y2 cc2 nL2 ret2 fr lc mc ms (.ref (D.2 1000 4) :: as) h post) (ho : y.cls = own) (hl0 : Cond.methodLink own index y2 ∈ lw_all) (hfr : Nat.ble (fr + 1) R.frames = true) (hlc : Nat.ble (8 + (nL2 + 11) + lc) R.locals = true) (hn : as.length = n) (hst : st = as.reverse ++ .ref (D.2 1000 4) :: rest) (hW : Nat.ble ((rest.map fun v => v.category).sum) 8 = true) (hdg : decode cc pc = .ok (.invokevirtual index, 3)) (hcap : cs + mc ≤ R.cells ∧ ss + ms ≤ R.slots) (kk : ∀ (v : Option Value) (h2 : zz_H), post v h2 → zz_V D b0 nL p l e R s m args below meth c Q (cs + mc) (ss + ms) h2 lo (pc + 3) (zz_push v rest)) : zz_V D b0 nL p l e R s m args below meth c Q cs ss h lo pc st := by
  intro H locs la hP hS hl
  have hrc : ∃ cell : Cell, H[D.2 1000 4]? = some cell ∧ cell.vm.isStatics = false ∧ s.vm.findClass y2.cls = some cell.cls := by
    obtain ⟨cell, k1, k2, k3, -⟩ := (zz_sO C).kept hS.2.1
    exact ⟨cell, k1, k2, by rw [hy2]; exact k3⟩
  refine zz_ran (va_runV (As := as) (rest := rest) (C := y2.cls) (zz_fix C ho) M (cwV n C.2.2.2.2.1 (lw_V hl0 Y.2.1 Y.2.2 Y.1.2.2.1 Y.1.2.1) rfl rfl rfl ⟨rfl, Y.1.1⟩ ⟨Nat.le_of_ble_eq_true hfr, Nat.le_of_ble_eq_true hlc⟩) ⟨zz_blind, hrc, zz_pre C hP hS (.ref (D.2 1000 4) :: as)⟩ rfl hn hl.1 hst (zz_w8 hW) hdg hcap) hS hl rfl kk
/-- the empty table is none of ours -/
theorem zz_def (C : zz_C D b0 y cc nL ret p s m args meth c) (k : h (D.2 1000 3) = none → zz_V D b0 nL p l e R s m args below meth c Q cs ss h lo pc st) : zz_V D b0 nL p l e R s m args below meth c Q cs ss h lo pc st := fun H locs la hP hS hl => by
  refine k ?_ H locs la hP hS hl
  cases hh : h (D.2 1000 3) with
  | none => rfl
  | some e => exact absurd (hP _ _ hh).1 (zz_tDEF C).out
end ZZ
/-! the bits of a set -/
theorem bc_nib (j b r k K : Nat) (hb : b < 16) (hk : k < 2 ^ (4 - j)) (hj : j ≤ 4) : ((16 * r + b) >>> j) &&& (16 * K + k) = 16 * ((r >>> j) &&& K) + ((b >>> j) &&& k) := by
  have hb4 : b < 2 ^ 4 := hb
  have hk4 : k < 2 ^ 4 := Nat.lt_of_lt_of_le hk (Nat.pow_le_pow_right (by decide) (by omega))
  have h1 : (b >>> j) &&& k < 2 ^ 4 := Nat.lt_of_le_of_lt Nat.and_le_right hk4
  refine Nat.eq_of_testBit_eq (fun t => ?_)
  rw [show (16 : Nat) = 2 ^ 4 from rfl]
  rw [Nat.testBit_and, Nat.testBit_shiftRight, Nat.testBit_two_pow_mul_add r hb4, Nat.testBit_two_pow_mul_add K hk4, Nat.testBit_two_pow_mul_add _ h1, Nat.testBit_and, Nat.testBit_and, Nat.testBit_shiftRight, Nat.testBit_shiftRight]
  by_cases ht : t < 4
  · rw [if_pos ht, if_pos ht]
    by_cases hjt : j + t < 4
    · rw [if_pos hjt]
    · have hkt : k.testBit t = false := Nat.testBit_lt_two_pow (Nat.lt_of_lt_of_le hk (Nat.pow_le_pow_right (by decide) (by omega)))
      rw [hkt, Bool.and_false, Bool.and_false]
  · rw [if_neg ht, if_neg ht, if_neg (by omega)]
    rw [show j + t - 4 = j + (t - 4) by omega]
/-- the code of Integer.bitCount over numbers -/
def bc_1 (x : Nat) : Nat := x - ((x >>> 1) &&& 1431655765)
def bc_2 (x : Nat) : Nat := (x &&& 858993459) + ((x >>> 2) &&& 858993459)
def bc_p (b : Nat) : Nat := ((b - ((b >>> 1) &&& 5)) &&& 3) + (((b - ((b >>> 1) &&& 5)) >>> 2) &&& 3)
def bc_q (b : Nat) : Nat := b - ((b >>> 1) &&& 5)
theorem bc_q_ok : ∀ b : Nat, b < 16 → (b >>> 1) &&& 5 ≤ b ∧ bc_q b < 16 ∧ bc_p b ≤ 4 := by decide
abbrev bc_n (n0 n1 n2 n3 n4 n5 : Nat) : Nat := 16 * (16 * (16 * (16 * (16 * n5 + n4) + n3) + n2) + n1) + n0
theorem bc_and1 {n0 n1 n2 n3 n4 n5 : Nat} (h0 : n0 < 16) (h1 : n1 < 16) (h2 : n2 < 16) (h3 : n3 < 16) (h4 : n4 < 16) (h5 : n5 < 16) (j k M : Nat) (hj : j ≤ 4) (hk : k < 2 ^ (4 - j)) (hM : M = 16 * (16 * (16 * (16 * (16 * (16 * (16 * k + k) + k) + k) + k) + k) + k) + k) : (bc_n n0 n1 n2 n3 n4 n5 >>> j) &&& M = bc_n ((n0 >>> j) &&& k) ((n1 >>> j) &&& k) ((n2 >>> j) &&& k) ((n3 >>> j) &&& k) ((n4 >>> j) &&& k) ((n5 >>> j) &&& k) := by
  subst hM
  unfold bc_n
  rw [bc_nib j n0 _ k _ h0 hk hj, bc_nib j n1 _ k _ h1 hk hj, bc_nib j n2 _ k _ h2 hk hj, bc_nib j n3 _ k _ h3 hk hj, bc_nib j n4 _ k _ h4 hk hj]
  have e5 : (n5 >>> j) &&& (16 * (16 * k + k) + k) = (n5 >>> j) &&& k := by
    have := bc_nib j n5 0 k (16 * k + k) h5 hk hj
    simpa using this
  rw [e5]
theorem bc_s12 {n0 n1 n2 n3 n4 n5 : Nat} (h0 : n0 < 16) (h1 : n1 < 16) (h2 : n2 < 16) (h3 : n3 < 16) (h4 : n4 < 16) (h5 : n5 < 16) : bc_2 (bc_1 (bc_n n0 n1 n2 n3 n4 n5)) = bc_n (bc_p n0) (bc_p n1) (bc_p n2) (bc_p n3) (bc_p n4) (bc_p n5) := by
  have e1 : bc_1 (bc_n n0 n1 n2 n3 n4 n5) = bc_n (bc_q n0) (bc_q n1) (bc_q n2) (bc_q n3) (bc_q n4) (bc_q n5) := by
    unfold bc_1
    rw [bc_and1 h0 h1 h2 h3 h4 h5 1 5 _ (by decide) (by decide) rfl]
    have := (bc_q_ok n0 h0).1
    have := (bc_q_ok n1 h1).1
    have := (bc_q_ok n2 h2).1
    have := (bc_q_ok n3 h3).1
    have := (bc_q_ok n4 h4).1
    have := (bc_q_ok n5 h5).1
    unfold bc_q bc_n
    omega
  rw [e1]
  unfold bc_2
  have e2 := bc_and1 (bc_q_ok n0 h0).2.1 (bc_q_ok n1 h1).2.1 (bc_q_ok n2 h2).2.1 (bc_q_ok n3 h3).2.1 (bc_q_ok n4 h4).2.1 (bc_q_ok n5 h5).2.1 0 3 858993459 (by decide) (by decide) rfl
  have e3 := bc_and1 (bc_q_ok n0 h0).2.1 (bc_q_ok n1 h1).2.1 (bc_q_ok n2 h2).2.1 (bc_q_ok n3 h3).2.1 (bc_q_ok n4 h4).2.1 (bc_q_ok n5 h5).2.1 2 3 858993459 (by decide) (by decide) rfl
  rw [Nat.shiftRight_zero] at e2
  rw [e2, e3]
  simp only [Nat.shiftRight_zero]
  unfold bc_n bc_p bc_q
  omega
def bc_3 (x : Nat) : Nat := (x + x >>> 4) &&& 252645135
def bc_4 (x : Nat) : Nat := x + x >>> 8
def bc_5 (x : Nat) : Nat := x + x >>> 16
theorem bc_s3 {p0 p1 p2 p3 p4 p5 : Nat} (h0 : p0 ≤ 4) (h1 : p1 ≤ 4) (h2 : p2 ≤ 4) (h3 : p3 ≤ 4) (h4 : p4 ≤ 4) (h5 : p5 ≤ 4) : bc_5 (bc_4 (bc_3 (bc_n p0 p1 p2 p3 p4 p5))) % 64 = p0 + p1 + p2 + p3 + p4 + p5 := by
  have e1 : bc_n p0 p1 p2 p3 p4 p5 + bc_n p0 p1 p2 p3 p4 p5 >>> 4 = bc_n (p0 + p1) (p1 + p2) (p2 + p3) (p3 + p4) (p4 + p5) p5 := by
    rw [Nat.shiftRight_eq_div_pow]
    unfold bc_n
    omega
  have e2 : bc_3 (bc_n p0 p1 p2 p3 p4 p5) = bc_n (p0 + p1) 0 (p2 + p3) 0 (p4 + p5) 0 := by
    unfold bc_3
    rw [e1]
    have g0 := bc_nib 0 (p0 + p1) (16 * (16 * (16 * (16 * p5 + (p4 + p5)) + (p3 + p4)) + (p2 + p3)) + (p1 + p2)) 15 15790320 (by omega) (by decide) (by decide)
    have g1 := bc_nib 0 (p1 + p2) (16 * (16 * (16 * p5 + (p4 + p5)) + (p3 + p4)) + (p2 + p3)) 0 986895 (by omega) (by decide) (by decide)
    have g2 := bc_nib 0 (p2 + p3) (16 * (16 * p5 + (p4 + p5)) + (p3 + p4)) 15 61680 (by omega) (by decide) (by decide)
    have g3 := bc_nib 0 (p3 + p4) (16 * p5 + (p4 + p5)) 0 3855 (by omega) (by decide) (by decide)
    have g4 := bc_nib 0 (p4 + p5) p5 15 240 (by omega) (by decide) (by decide)
    have g5 := bc_nib 0 p5 0 0 15 (by omega) (by decide) (by decide)
    have m15 : ∀ z : Nat, z < 16 → z &&& 15 = z := by decide
    simp only [Nat.shiftRight_zero, Nat.and_zero, Nat.zero_and, Nat.mul_zero, Nat.zero_add, Nat.add_zero, Nat.reduceMul, Nat.reduceAdd] at g0 g1 g2 g3 g4 g5
    unfold bc_n
    rw [g0, g1, g2, g3, g4, g5, m15 _ (by omega), m15 _ (by omega), m15 _ (by omega)]
    rfl
  rw [e2]
  clear e1 e2
  have e4 : bc_4 (bc_n (p0 + p1) 0 (p2 + p3) 0 (p4 + p5) 0) = (p0 + p1 + p2 + p3) + 256 * (p2 + p3 + p4 + p5) + 65536 * (p4 + p5) := by
    unfold bc_4
    rw [Nat.shiftRight_eq_div_pow]
    unfold bc_n
    omega
  rw [e4]
  unfold bc_5
  rw [Nat.shiftRight_eq_div_pow]
  have e5 : (p0 + p1 + p2 + p3 + 256 * (p2 + p3 + p4 + p5) + 65536 * (p4 + p5)) / 2 ^ 16 = p4 + p5 := by omega
  rw [e5]
  clear e4 e5
  omega
/-- the set as a number -/
def bc_x (f : Nat → Bool) : Nat → Nat
  | 0 => 0
  | n + 1 => bc_x f n + (if f n then 2 ^ n else 0)
theorem bc_x_lt (f : Nat → Bool) : ∀ n : Nat, bc_x f n < 2 ^ n
  | 0 => Nat.one_pos
  | n + 1 => by
    have := bc_x_lt f n
    unfold bc_x
    rw [Nat.pow_succ]
    split <;> omega
theorem bc_or (f : Nat → Bool) : ∀ n : Nat, n ≤ 24 → qa_or f n = nI (bc_x f n)
  | 0, _ => rfl
  | n + 1, h => by
    have ih := bc_or f n (by omega)
    have hx := bc_x_lt f n
    have h24 : 2 ^ n ≤ 2 ^ 23 := Nat.pow_le_pow_right (by decide) (by omega)
    unfold qa_or bc_x
    rw [ih]
    split
    · have e0 : nI n &&& 31 = nI n := by
        have := pk_andN (n := n) (by omega) (m := 31) 5 (by decide)
        rw [this, Nat.mod_eq_of_lt (by omega)]
      have e1 : (1 : Int32) <<< (nI n &&& 31) = nI (2 ^ n) := by
        rw [e0]
        have hs : ((nI n).toBitVec.smod 32).toNat = n := (show ∀ k : Nat, k < 24 → ((nI k).toBitVec.smod 32).toNat = k from by decide +kernel) n (by omega)
        have := pk_shlN (n := 1) (nI n) n hs (by omega)
        rw [Nat.one_mul] at this
        exact this
      rw [e1]
      apply Int32.toBitVec_inj.mp
      rw [Int32.toBitVec_or]
      apply BitVec.eq_of_toNat_eq
      rw [BitVec.toNat_or, pk_tn (by omega), pk_tn (by omega), pk_tn (by omega)]
      have := Nat.two_pow_add_eq_or_of_lt hx 1
      rw [Nat.mul_one] at this
      rw [Nat.or_comm, ← this, Nat.add_comm]
    · rw [Int32.or_zero, Nat.add_zero]
theorem bc_b4 : ∀ a b c d : Bool, bc_p ((if a then 1 else 0) + 2 * (if b then 1 else 0) + 4 * (if c then 1 else 0) + 8 * (if d then 1 else 0)) = (if a then 1 else 0) + (if b then 1 else 0) + (if c then 1 else 0) + (if d then 1 else 0) ∧ (if a then 1 else 0) + 2 * (if b then 1 else 0) + 4 * (if c then 1 else 0) + 8 * (if d then 1 else 0) < 16 := by decide
def bc_i (b : Bool) : Nat := if b then 1 else 0
theorem bc_b4' (a b c d : Bool) : bc_p (bc_i a + 2 * bc_i b + 4 * bc_i c + 8 * bc_i d) = bc_i a + bc_i b + bc_i c + bc_i d ∧ bc_i a + 2 * bc_i b + 4 * bc_i c + 8 * bc_i d < 16 := bc_b4 a b c d
theorem bc_xi (f : Nat → Bool) (n : Nat) : bc_x f (n + 1) = bc_x f n + bc_i (f n) * 2 ^ n := by
  show bc_x f n + _ = _
  unfold bc_i
  split <;> simp
theorem bc_ci (f : Nat → Bool) (n : Nat) : qa_cnt f (n + 1) = qa_cnt f n + bc_i (f n) := rfl
theorem bc_24 (f : Nat → Bool) : bc_5 (bc_4 (bc_3 (bc_2 (bc_1 (bc_x f 24))))) % 64 = qa_cnt f 24 := by
  have ex : bc_x f 24 = bc_n (bc_i (f 0) + 2 * bc_i (f 1) + 4 * bc_i (f 2) + 8 * bc_i (f 3)) (bc_i (f 4) + 2 * bc_i (f 5) + 4 * bc_i (f 6) + 8 * bc_i (f 7)) (bc_i (f 8) + 2 * bc_i (f 9) + 4 * bc_i (f 10) + 8 * bc_i (f 11)) (bc_i (f 12) + 2 * bc_i (f 13) + 4 * bc_i (f 14) + 8 * bc_i (f 15)) (bc_i (f 16) + 2 * bc_i (f 17) + 4 * bc_i (f 18) + 8 * bc_i (f 19)) (bc_i (f 20) + 2 * bc_i (f 21) + 4 * bc_i (f 22) + 8 * bc_i (f 23)) := by
    simp only [bc_xi, show bc_x f 0 = 0 from rfl, Nat.reducePow]
    unfold bc_n
    omega
  rw [ex, bc_s12 (bc_b4' _ _ _ _).2 (bc_b4' _ _ _ _).2 (bc_b4' _ _ _ _).2 (bc_b4' _ _ _ _).2 (bc_b4' _ _ _ _).2 (bc_b4' _ _ _ _).2]
  rw [bc_s3 (bc_q_ok _ (bc_b4' _ _ _ _).2).2.2 (bc_q_ok _ (bc_b4' _ _ _ _).2).2.2 (bc_q_ok _ (bc_b4' _ _ _ _).2).2.2 (bc_q_ok _ (bc_b4' _ _ _ _).2).2.2 (bc_q_ok _ (bc_b4' _ _ _ _).2).2.2 (bc_q_ok _ (bc_b4' _ _ _ _).2).2.2]
  rw [(bc_b4' _ _ _ _).1, (bc_b4' _ _ _ _).1, (bc_b4' _ _ _ _).1, (bc_b4' _ _ _ _).1, (bc_b4' _ _ _ _).1, (bc_b4' _ _ _ _).1]
  simp only [bc_ci, show qa_cnt f 0 = 0 from rfl]
  omega
theorem bc_x_ext (f g : Nat → Bool) : ∀ n : Nat, (∀ i : Nat, i < n → f i = g i) → bc_x f n = bc_x g n ∧ qa_cnt f n = qa_cnt g n
  | 0, _ => ⟨rfl, rfl⟩
  | n + 1, h => by
    obtain ⟨h1, h2⟩ := bc_x_ext f g n (fun i hi => h i (by omega))
    rw [bc_xi, bc_xi, bc_ci, bc_ci, h1, h2, h n (by omega)]
    exact ⟨rfl, rfl⟩
theorem bc_x_0 (f : Nat → Bool) (n : Nat) : ∀ k : Nat, (∀ i : Nat, n ≤ i → f i = false) → bc_x f (n + k) = bc_x f n ∧ qa_cnt f (n + k) = qa_cnt f n
  | 0, _ => ⟨rfl, rfl⟩
  | k + 1, h => by
    obtain ⟨h1, h2⟩ := bc_x_0 f n k h
    rw [← Nat.add_assoc, bc_xi, bc_ci, h (n + k) (by omega), h1, h2]
    simp [bc_i]
theorem bc_N (f : Nat → Bool) (n : Nat) (hn : n ≤ 24) : bc_5 (bc_4 (bc_3 (bc_2 (bc_1 (bc_x f n))))) % 64 = qa_cnt f n := by
  have e1 := bc_x_ext f (fun i => f i && decide (i < n)) n (fun i hi => by simp [hi])
  have e2 := bc_x_0 (fun i => f i && decide (i < n)) n (24 - n) (fun i hi => by simp [Nat.not_lt.mpr hi])
  rw [show n + (24 - n) = 24 by omega] at e2
  rw [e1.1, e1.2, ← e2.1, ← e2.2]
  exact bc_24 _
theorem nI_ns {x k : Nat} (hx : x < 2 ^ 31) (hk : k < 32) : ((nI x).toUInt32 >>> ((nI k).toUInt32 &&& Int32.toUInt32 31)).toInt32 = nI (x >>> k) := by
  rw [pk_ushrN (by omega) (nI k) k ((show ∀ k : Nat, k < 32 → (((nI k).toUInt32 &&& Int32.toUInt32 31).toBitVec % 32).toNat = k from by decide +kernel) k hk), Nat.shiftRight_eq_div_pow]
theorem nI_na {x y : Nat} (hx : x < 2 ^ 32) (hy : y < 2 ^ 32) : nI x &&& nI y = nI (x &&& y) := by
  apply Int32.toBitVec_inj.mp
  rw [Int32.toBitVec_and]
  apply BitVec.eq_of_toNat_eq
  rw [BitVec.toNat_and, pk_tn hx, pk_tn hy, pk_tn (Nat.lt_of_le_of_lt Nat.and_le_left hx)]
