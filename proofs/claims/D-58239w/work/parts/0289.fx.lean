/-! axles: what is weighed in floats -/
section ZZ
variable {D : va_G} {b0 : Nat} {p : Program} {l : Launch} {e : Env} {R : Room} {s : State} {m : MethodId} {args : Array Value} {below : List Frame} {meth : Method} {c : Code} {Q : State → Prop} {cs ss : Nat} {h : zz_H} {lo : List (Nat × Value)} {y : MethodName} {cc : ByteArray} {nL : Nat} {ret : Option FieldType} {pc : Nat} {st : List Value}
theorem zz_ldcF (C : zz_C D b0 y cc nL ret p s m args meth c) {own : String} {index : Nat} {v : UInt32} (ho : y.cls = own) (hc : Jvm.Cond.constantFloat own index v ∈ lw_all) (hdg : decode cc pc = .ok (.ldc index, 2)) (k : zz_V D b0 nL p l e R s m args below meth c Q cs ss h lo (pc + 2) (.float v :: st)) : zz_V D b0 nL p l e R s m args below meth c Q cs ss h lo pc st := fun H locs la hP hS hl => lv_ldcf C.1 C.2.1 (by rw [← ho]; exact C.2.2.2.1) (C.2.2.2.2.1 _ hc) hdg (k H locs la hP hS hl)
theorem zz_ldc2D (C : zz_C D b0 y cc nL ret p s m args meth c) {own : String} {index : Nat} {v : UInt64} (ho : y.cls = own) (hc : Jvm.Cond.constantDouble own index v ∈ lw_all) (hdg : decode cc pc = .ok (.ldc2_w index, 3)) (k : zz_V D b0 nL p l e R s m args below meth c Q cs ss h lo (pc + 3) (.double v :: st)) : zz_V D b0 nL p l e R s m args below meth c Q cs ss h lo pc st := fun H locs la hP hS hl => lv_ldc2d C.1 C.2.1 (by rw [← ho]; exact C.2.2.2.1) (C.2.2.2.2.1 _ hc) hdg (k H locs la hP hS hl)
end ZZ
/-- how far a place is from the axle that does not bear -/
def fx_f (rear : Bool) (p : Nat) : Int32 := if rear = true then nI p else 4 - nI p
theorem fx_f_n (rear : Bool) {p : Nat} (hp : p ≤ 4) : ∃ k : Nat, k ≤ 4 ∧ fx_f rear p = nI k := by
  unfold fx_f
  split
  · exact ⟨p, hp, rfl⟩
  · match p, hp with
    | 0, _ => exact ⟨4, by decide, rfl⟩
    | 1, _ => exact ⟨3, by decide, rfl⟩
    | 2, _ => exact ⟨2, by decide, rfl⟩
    | 3, _ => exact ⟨1, by decide, rfl⟩
    | 4, _ => exact ⟨0, by decide, rfl⟩
/-- what a weight at a place adds -/
def fx_w (w : Int32) (rear : Bool) (p : Nat) : UInt32 := FP.fdiv (FP.fmul (FP.i2f w) (FP.i2f (fx_f rear p))) 1082130432
theorem fx_4 : fs_n 1082130432 8388608 (-21) := ⟨by decide +kernel, by decide, by decide, by decide, by decide⟩
theorem fx_m_k {w : Int32} (rear : Bool) {p : Nat} (hw : ∃ k : Nat, k < 2 ^ 31 ∧ w = nI k) (hp : p ≤ 4) : fs_k (-23) 43 (FP.fmul (FP.i2f w) (FP.i2f (fx_f rear p))) := by
  obtain ⟨k, hk, rfl⟩ := hw
  obtain ⟨j, hj, ej⟩ := fx_f_n rear hp
  rw [ej]
  exact (fs_k.mul (fs_ik hk) (fs_ik (n := j) (by omega)) (by decide) (by decide)).wd (by decide) (by decide)
theorem fx_w_k {w : Int32} (rear : Bool) {p : Nat} (hw : ∃ k : Nat, k < 2 ^ 31 ∧ w = nI k) (hp : p ≤ 4) : fs_k (-26) 42 (fx_w w rear p) :=
  (fs_k.div (l2 := -21) (h2 := -21) (fx_m_k rear hw hp) ⟨_, _, fx_4, by decide, by decide⟩ (by decide) (by decide)).wd (by decide) (by decide)
/-- what stands at a place, with one block more -/
def qa_bl (a : Nat → Int32) (nb : Nat) (l more free : Int32) (p : Nat) : Int32 := if nI p = free ∧ ¬ more = -6 then more else qa_find a (5 * l + nI p) nb
def qa_ax (a : Nat → Int32) (nb : Nat) (l : Int32) (rear : Bool) (more free : Int32) : Nat → UInt32
  | 0 => FP.fconst0
  | p + 1 => if qa_bl a nb l more free p = -6 then qa_ax a nb l rear more free p else FP.fadd (qa_ax a nb l rear more free p) (fx_w (qa_w a (qa_bl a nb l more free p).toNatClampNeg) rear p)
/-- weights that are not below 0 -/
def qa_wk (a : Nat → Int32) (nb : Nat) : Prop := ∀ b : Nat, b < nb → ∃ k : Nat, k < 2 ^ 31 ∧ qa_w a b = nI k
theorem qa_bl_c {a : Nat → Int32} {nb : Nat} {l more free : Int32} (hm : more = -6 ∨ ∃ b : Nat, b < nb ∧ more = nI b) (p : Nat) : qa_bl a nb l more free p = -6 ∨ ∃ b : Nat, b < nb ∧ qa_bl a nb l more free p = nI b := by
  unfold qa_bl
  split
  · exact hm
  · rcases qa_find_c a (5 * l + nI p) nb with h | ⟨b, h1, h2, -⟩
    · exact Or.inl h
    · exact Or.inr ⟨b, h1, h2⟩
theorem qa_ax_k {a : Nat → Int32} {nb : Nat} {l more free : Int32} {rear : Bool} (hnb : nb ≤ 24) (hw : qa_wk a nb) (hm : more = -6 ∨ ∃ b : Nat, b < nb ∧ more = nI b) : ∀ p : Nat, p ≤ 5 → fs_k (-26) (42 + 2 * (p : Int)) (qa_ax a nb l rear more free p)
  | 0, _ => Or.inl rfl
  | p + 1, hp => by
    have ih := qa_ax_k (a := a) (nb := nb) (l := l) (more := more) (free := free) (rear := rear) hnb hw hm p (by omega)
    unfold qa_ax
    split
    · exact ih.wd (by omega) (by omega)
    · rename_i hne
      obtain ⟨b, hb, eb⟩ := (qa_bl_c hm p).resolve_left hne
      rw [eb, nI_clamp (by omega)]
      exact (fs_k.add ih (fx_w_k rear (hw b hb) (by omega)) (by decide) (by omega) (by omega)).wd (by omega) (by omega)
theorem qa_ax_kk {a : Nat → Int32} {nb : Nat} {l more free : Int32} {rear : Bool} (hnb : nb ≤ 24) (hw : qa_wk a nb) (hm : more = -6 ∨ ∃ b : Nat, b < nb ∧ more = nI b) : fs_k (-26) 52 (qa_ax a nb l rear more free 5) := (qa_ax_k hnb hw hm 5 (by decide)).wd (by decide) (by decide)
def qa_why (a : Nat → Int32) (nb : Nat) (v0 : Int32) : Int32 :=
  if qa_on a nb v0 5 = 0 then 1 else if qa_hc a nb v0 5 = true then 2 else if ¬ qa_load a nb v0 5 ≤ a (312 + 4 * v0.toNatClampNeg + 2) then 3 else
  if ¬ Op.cmpValue (FP.fcmp (qa_ax a nb v0 false (-6) (-6) 5) (FP.i2f (a (312 + 4 * v0.toNatClampNeg + 0)))) .l ≤ 0 then 4 else
  if ¬ Op.cmpValue (FP.fcmp (qa_ax a nb v0 true (-6) (-6) 5) (FP.i2f (a (312 + 4 * v0.toNatClampNeg + 1)))) .l ≤ 0 then 5 else 0
/-- the greater share of both axles -/
def qa_sh (a : Nat → Int32) (nb : Nat) (b l p : Int32) : UInt32 :=
  if Op.cmpValue (FP.fcmp (FP.fdiv (qa_ax a nb l false b p 5) (FP.i2f (a (312 + 4 * l.toNatClampNeg + 0)))) (FP.fdiv (qa_ax a nb l true b p 5) (FP.i2f (a (312 + 4 * l.toNatClampNeg + 1))))) .l ≤ 0 then FP.fdiv (qa_ax a nb l true b p 5) (FP.i2f (a (312 + 4 * l.toNatClampNeg + 1))) else FP.fdiv (qa_ax a nb l false b p 5) (FP.i2f (a (312 + 4 * l.toNatClampNeg + 0)))
/-- limits are above 0 -/
def qa_lk (a : Nat → Int32) : Prop := ∀ l : Nat, l < 3 → ∀ k : Nat, k < 3 → ∃ n : Nat, 0 < n ∧ n < 2 ^ 31 ∧ a (312 + 4 * l + k) = nI n
theorem qa_sh1_k {a : Nat → Int32} {nb : Nat} {b l p : Int32} {rear : Bool} {i k : Nat} (hnb : nb ≤ 24) (hw : qa_wk a nb) (hl : qa_lk a) (hm : b = -6 ∨ ∃ b' : Nat, b' < nb ∧ b = nI b') (hi : i < 3) (hk : k < 3) : fs_k (-59) 53 (FP.fdiv (qa_ax a nb l rear b p 5) (FP.i2f (a (312 + 4 * i + k)))) := by
  obtain ⟨n, n1, n2, en⟩ := hl i hi k hk
  rw [en]
  obtain ⟨c, q, g1, g2, g3⟩ := fs_i n1 n2
  exact (fs_k.div (l2 := -23) (h2 := 9) (qa_ax_kk hnb hw hm) ⟨c, q, g1, g2, g3⟩ (by decide) (by decide)).wd (by decide) (by decide)
theorem qa_sh_k {a : Nat → Int32} {nb : Nat} {b l p : Int32} (hnb : nb ≤ 24) (hw : qa_wk a nb) (hl : qa_lk a) (hm : b = -6 ∨ ∃ b' : Nat, b' < nb ∧ b = nI b') (hi : l.toNatClampNeg < 3) : fs_k (-59) 53 (qa_sh a nb b l p) := by
  unfold qa_sh
  split
  · exact qa_sh1_k hnb hw hl hm hi (by decide)
  · exact qa_sh1_k hnb hw hl hm hi (by decide)
/-- the best place, looked for from the last one on -/
def qa_bp (a : Nat → Int32) (nb : Nat) (b l : Int32) : Nat → Int32
  | 0 => -6
  | n + 1 => if qa_find a (5 * l + nI (4 - n)) nb = -6 ∧ (qa_bp a nb b l n = -6 ∨ Op.cmpValue (FP.fcmp (qa_sh a nb b l (nI (4 - n))) (qa_sh a nb b l (qa_bp a nb b l n))) .g ≤ 0) then nI (4 - n) else qa_bp a nb b l n
def op_bp (a : Nat → Int32) (nb : Nat) (v0 v1 : Int32) : Int32 :=
  if qa_in v0 0 (a 5 - 1) = false then -1 else if qa_in v1 0 2 = false then -1 else if qa_here a v0.toNatClampNeg = false then -5 else qa_bp a nb v0 v1 5
/-- the mean weight's bits -/
def op_mean (a : Nat → Int32) (nb : Nat) : Int64 := if qa_sum (qa_ncf a false) nb = 0 then 0 else (FP.ddiv (FP.i2d (qa_sum (qa_ncf a true) nb)) (FP.i2d (qa_sum (qa_ncf a false) nb))).toInt64
theorem zz_dn {i : Nat} (hi : i < 2 ^ 31) (h : nI i - 1 < 0) : i = 0 := by
  cases i with
  | zero => rfl
  | succ j =>
    rw [zz_sub1] at h
    exact absurd h (Int32.not_lt.mpr (nI_pos' (by omega)))
theorem zz_dp {i : Nat} (h : ¬ nI i - 1 < 0) : ∃ j, i = j + 1 := by
  cases i with
  | zero => exact absurd (by decide) h
  | succ j => exact ⟨j, rfl⟩
theorem fd_a (k : Nat) : Int64.ofNat k + 1 = Int64.ofNat (k + 1) := by rw [Int64.ofNat_add]; rfl
theorem fd_s (k : Nat) : Int64.ofNat (k + 1) - 1 = Int64.ofNat k := by rw [← fd_a]; simp
theorem fd_ixm (a b c : Nat) : Int64.ofNat a * Int64.ofNat b + Int64.ofNat c = Int64.ofNat (a * b + c) := by rw [Int64.ofNat_add, Int64.ofNat_mul]
theorem fs_1le {r : UInt32} {c : Nat} {q : Int} (hr : fs_n r c q) (op : CmpOp) (h : 0 ≤ Op.cmpValue (FP.fcmp r FP.fconst1) op) : -23 ≤ q := (fs_vp hr (-23) (by decide)).mp (by rw [← fs_vn fs_1n]; exact (fs_ge op (fs_nd hr) (fs_nd fs_1n)).mp h)
theorem fs_1lt {r : UInt32} {c : Nat} {q : Int} (hr : fs_n r c q) (op : CmpOp) (h : ¬ 0 ≤ Op.cmpValue (FP.fcmp r FP.fconst1) op) : q < -23 := Int.not_le.mp (fun g => h ((fs_ge op (fs_nd hr) (fs_nd fs_1n)).mpr (by rw [fs_vn fs_1n]; exact (fs_vp hr (-23) (by decide)).mpr g)))
theorem fs_2lt {r : UInt32} {c : Nat} {q : Int} (hr : fs_n r c q) (op : CmpOp) (h : Op.cmpValue (FP.fcmp r FP.fconst2) op < 0) : q < -22 := Int.not_le.mp (fun g => absurd ((fs_lt op (fs_nd hr) (fs_nd fs_2n)).mp h) (Nat.not_lt.mpr (by rw [fs_vn fs_2n]; exact (fs_vp hr (-22) (by decide)).mpr g)))
theorem fs_2le {r : UInt32} {c : Nat} {q : Int} (hr : fs_n r c q) (op : CmpOp) (h : ¬ Op.cmpValue (FP.fcmp r FP.fconst2) op < 0) : -22 ≤ q := (fs_vp hr (-22) (by decide)).mp (by
  have g := Nat.not_lt.mp (fun g => h ((fs_lt op (fs_nd hr) (fs_nd fs_2n)).mpr g))
  rw [fs_vn fs_2n] at g
  exact g)
theorem fd_1le {r : UInt64} {c : Nat} {q : Int} (hr : fd_n r c q) (op : CmpOp) (h : 0 ≤ Op.cmpValue (FP.dcmp r FP.dconst1) op) : -52 ≤ q := (fd_vp hr (-52) (by decide)).mp (by rw [← fd_vn fd_1n]; exact (fd_ge op (fd_nd hr) (fd_nd fd_1n)).mp h)
theorem fd_1lt {r : UInt64} {c : Nat} {q : Int} (hr : fd_n r c q) (op : CmpOp) (h : ¬ 0 ≤ Op.cmpValue (FP.dcmp r FP.dconst1) op) : q < -52 := Int.not_le.mp (fun g => h ((fd_ge op (fd_nd hr) (fd_nd fd_1n)).mpr (by rw [fd_vn fd_1n]; exact (fd_vp hr (-52) (by decide)).mpr g)))
theorem fd_2lt {r : UInt64} {c : Nat} {q : Int} (hr : fd_n r c q) (op : CmpOp) (h : Op.cmpValue (FP.dcmp r 4611686018427387904) op < 0) : q < -51 := Int.not_le.mp (fun g => absurd ((fd_lt op (fd_nd hr) (fd_nd fd_2n)).mp h) (Nat.not_lt.mpr (by rw [fd_vn fd_2n, show ((1 : Int) - 52 + 1074) = -51 + 1074 from by decide]; exact (fd_vp hr (-51) (by decide)).mpr g)))
theorem fd_2le {r : UInt64} {c : Nat} {q : Int} (hr : fd_n r c q) (op : CmpOp) (h : ¬ Op.cmpValue (FP.dcmp r 4611686018427387904) op < 0) : -51 ≤ q := (fd_vp hr (-51) (by decide)).mp (by
  have g := Nat.not_lt.mp (fun g => h ((fd_lt op (fd_nd hr) (fd_nd fd_2n)).mpr g))
  rw [fd_vn fd_2n, show ((1 : Int) - 52 + 1074) = -51 + 1074 from by decide] at g
  exact g)
theorem zz_m1 (x : Int32) : x + Int32.ofInt (-1) = x - 1 := by rw [Int32.sub_eq_add_neg]; rfl
theorem qa_bp_s {a : Nat → Int32} {nb : Nat} {b l : Int32} {n j : Nat} (e : 4 - n = j) (h1 : qa_find a (5 * l + nI j) nb = -6) (h2 : qa_bp a nb b l n = -6 ∨ Op.cmpValue (FP.fcmp (qa_sh a nb b l (nI j)) (qa_sh a nb b l (qa_bp a nb b l n))) .g ≤ 0) : qa_bp a nb b l (n + 1) = nI j := by
  subst e
  exact if_pos ⟨h1, h2⟩
theorem qa_bp_n {a : Nat → Int32} {nb : Nat} {b l : Int32} {n j : Nat} (e : 4 - n = j) (h : ¬ qa_find a (5 * l + nI j) nb = -6 ∨ (¬ qa_bp a nb b l n = -6 ∧ ¬ Op.cmpValue (FP.fcmp (qa_sh a nb b l (nI j)) (qa_sh a nb b l (qa_bp a nb b l n))) .g ≤ 0)) : qa_bp a nb b l (n + 1) = qa_bp a nb b l n := by
  subst e
  refine if_neg (fun q => ?_)
  rcases h with h | ⟨h1, h2⟩
  · exact h q.1
  · exact q.2.elim h1 h2
