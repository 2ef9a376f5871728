/-! what the changes do to a -/
def qa_zero (a : Nat → Int32) (b : Nat) : Nat → (Nat → Int32)
  | 0 => a
  | k + 1 => upd (qa_zero a b k) (12 + 10 * b + k) 0
def qa_new (a : Nat → Int32) (nb : Nat) (x y z d : Int32) : Nat → Int32 := upd (upd (upd (upd (upd (upd (upd (qa_zero (upd a 5 (a 5 + 1)) nb 10) (12 + 10 * nb + 0) x) (12 + 10 * nb + 1) y) (12 + 10 * nb + 2) z) (12 + 10 * nb + 3) d) (12 + 10 * nb + 7) (-6)) (12 + 10 * nb + 8) (-6)) (12 + 10 * nb + 9) (-6)
def qa_cp (a : Nat → Int32) (nb b k : Nat) : Nat → Int32 := upd a (12 + 10 * nb + k) (a (12 + 10 * b + k))
def qa_part0 (a : Nat → Int32) (nb b k : Nat) (sz : Int32) : Nat → Int32 := upd (qa_cp (qa_cp (upd (qa_new a nb (a (12 + 10 * b + 0)) (a (12 + 10 * b + 1)) (a (12 + 10 * b + 2)) (a (12 + 10 * b + 3))) (12 + 10 * nb + k) sz) nb b 5) nb b 6) (12 + 10 * nb + 9) (nI b)
def qa_part (a : Nat → Int32) (nb b k : Nat) (sz : Int32) : Nat → Int32 := upd (qa_part0 a nb b k sz) 9 (qa_part0 a nb b k sz 9 - qa_w (qa_part0 a nb b k sz) nb)
def qa_inv (a : Nat → Int32) (b : Nat) : Int32 := if a (12 + 10 * b + 7) = -6 then 0 else a 1 * ((qa_w a b + 99) / 100)
def qa_del1 (a : Nat → Int32) (b : Nat) : Nat → Int32 := upd (upd a (12 + 10 * b + 4) 3) (12 + 10 * b + 8) (-6)
def qa_del2 (a : Nat → Int32) (b : Nat) : Nat → Int32 := upd (qa_del1 a b) 10 (qa_del1 a b 10 + qa_w (qa_del1 a b) b)
def qa_del (a : Nat → Int32) (b : Nat) : Nat → Int32 := if a (12 + 10 * b + 7) = -6 then qa_del2 a b else upd (upd (qa_del2 a b) (252 + 6 * (a (12 + 10 * b + 7)).toNatClampNeg + 3) 2) (252 + 6 * (a (12 + 10 * b + 7)).toNatClampNeg + 5) (qa_inv a b)
def qa_qua (a : Nat → Int32) (nb : Nat) (x y z d : Int32) : Nat → Int32 := upd (qa_new a nb x y z d) (12 + 10 * nb + 5) 3
def op_quarries (a : Nat → Int32) (x y z d : Int32) : Int32 × (Nat → Int32) :=
  if qa_in x 1 300 = false then (-2, a) else if qa_in y 1 300 = false then (-2, a) else if qa_in z 1 300 = false then (-2, a) else if qa_in d 20 30 = false then (-2, a) else
  if a 5 = 24 then (-4, a) else (a 5, upd (qa_qua a (a 5).toNatClampNeg x y z d) 8 (qa_qua a (a 5).toNatClampNeg x y z d 8 + qa_w (qa_qua a (a 5).toNatClampNeg x y z d) (a 5).toNatClampNeg))
/-- where the two parts of a cut block come to lie -/
def qa_rf (a : Nat → Int32) (u : Bool) (nb : Nat) : Nat → (Nat → Int32)
  | 0 => a
  | k + 1 => upd (qa_rf a u nb k) (12 + 10 * (nb + k) + 4) (if (u && decide (qa_cnt (fun b => decide (qa_rf a u nb k (12 + 10 * b + 4) = 1)) (nb + 2) < 4)) = true then 1 else 0)
def qa_cut0 (a : Nat → Int32) (nb b k : Nat) (sz rest : Int32) : Nat → Int32 := upd (qa_part (qa_part (upd a 9 (a 9 + qa_w a b)) nb b k sz) (nb + 1) b k rest) (12 + 10 * b + 4) 4
def qa_cut (a : Nat → Int32) (nb b k : Nat) (sz rest : Int32) : Nat → Int32 := qa_rf (qa_cut0 a nb b k sz rest) (decide (a (12 + 10 * b + 4) = 1)) nb 2
def qa_rest (a : Nat → Int32) (b k : Nat) (sz : Int32) : Int32 := a (12 + 10 * b + k) - sz - a 0
def op_cuts (a : Nat → Int32) (v0 v1 v2 : Int32) : Int32 × (Nat → Int32) :=
  if qa_in v0 0 (a 5 - 1) = false then (-1, a) else if qa_in v1 0 2 = false then (-2, a) else if qa_in v2 1 300 = false then (-2, a) else
  if qa_cbc a v0.toNatClampNeg = false then (-5, a) else if ¬ 1 ≤ qa_rest a v0.toNatClampNeg v1.toNatClampNeg v2 then (-5, a) else
  if ¬ a 5 + 2 ≤ 24 then (-4, a) else (a 5, qa_cut a (a 5).toNatClampNeg v0.toNatClampNeg v1.toNatClampNeg v2 (qa_rest a v0.toNatClampNeg v1.toNatClampNeg v2))
def qa_srts (a : Nat → Int32) (o : Nat) (x y z : Int32) : Nat → (Nat → Int32)
  | 0 => a
  | k + 1 => upd (qa_srts a o x y z k) (252 + 6 * o + k) (qa_srt x y z k)
def op_orders (a : Nat → Int32) (x y z : Int32) : Int32 × (Nat → Int32) :=
  if qa_in x 1 300 = false then (-2, a) else if qa_in y 1 300 = false then (-2, a) else if qa_in z 1 300 = false then (-2, a) else
  if a 6 = 10 then (-4, a) else (a 6, upd (upd (upd (qa_srts (upd a 6 (a 6 + 1)) (a 6).toNatClampNeg x y z 3) (252 + 6 * (a 6).toNatClampNeg + 3) 0) (252 + 6 * (a 6).toNatClampNeg + 4) (-6)) (252 + 6 * (a 6).toNatClampNeg + 5) (-6))
def qa_give (a : Nat → Int32) (v0 v1 : Int32) : Nat → Int32 := upd (upd (upd a (252 + 6 * v0.toNatClampNeg + 3) 1) (252 + 6 * v0.toNatClampNeg + 4) v1) (12 + 10 * v1.toNatClampNeg + 7) v0
def op_gives (a : Nat → Int32) (v0 v1 : Int32) : Int32 × (Nat → Int32) :=
  if qa_in v0 0 (a 6 - 1) = false then (-1, a) else if qa_in v1 0 (a 5 - 1) = false then (-1, a) else if qa_can a v0.toNatClampNeg v1.toNatClampNeg = false then (-5, a) else
  (qa_excOf (qa_give a v0 v1) v0.toNatClampNeg v1.toNatClampNeg, qa_give a v0 v1)
def qa_put (a : Nat → Int32) (v0 v1 v2 : Int32) : Nat → Int32 := upd (upd a (12 + 10 * v0.toNatClampNeg + 4) 2) (12 + 10 * v0.toNatClampNeg + 8) (5 * v1 + v2)
def op_loads (a : Nat → Int32) (v0 v1 v2 : Int32) : Int32 × (Nat → Int32) :=
  if qa_in v0 0 (a 5 - 1) = false then (-1, a) else if qa_in v1 0 2 = false then (-1, a) else if qa_in v2 0 4 = false then (-1, a) else
  if qa_here a v0.toNatClampNeg = false then (-5, a) else if ¬ qa_find a (5 * v1 + v2) (a 5).toNatClampNeg = -6 then (-5, a) else
  (qa_load (qa_put a v0 v1 v2) (a 5).toNatClampNeg v1 5, qa_put a v0 v1 v2)
/-- the lorry's blocks are delivered, place by place: the sum of the invoices, and the state -/
def qa_lv (a : Nat → Int32) (nb : Nat) (l : Int32) : Nat → Int32 × (Nat → Int32)
  | 0 => (0, a)
  | p + 1 => if qa_find (qa_lv a nb l p).2 (5 * l + nI p) nb = -6 then ((qa_lv a nb l p).1 + 0, (qa_lv a nb l p).2) else
    ((qa_lv a nb l p).1 + qa_inv (qa_lv a nb l p).2 (qa_find (qa_lv a nb l p).2 (5 * l + nI p) nb).toNatClampNeg, qa_del (qa_lv a nb l p).2 (qa_find (qa_lv a nb l p).2 (5 * l + nI p) nb).toNatClampNeg)
def qa_left (a : Nat → Int32) (k : Nat) (sum : Int32) : Nat → Int32 := upd (upd a 11 (a 11 + sum)) k (upd a 11 (a 11 + sum) k + 1)
/-- a block in a night -/
def qa_cr (a : Nat → Int32) (b : Nat) : Bool := decide (a 7 = 1) && qa_wc a b
def qa_n1 (a : Nat → Int32) (b : Nat) : Nat → Int32 := upd a (12 + 10 * b + 6) (if qa_cr a b = true then 1 else a (12 + 10 * b + 6))
def qa_dry (a : Nat → Int32) (b : Nat) : Bool := !decide (a (12 + 10 * b + 5) ≤ 0) && !decide (a (12 + 10 * b + 4) = 3) && !decide (a (12 + 10 * b + 4) = 4)
def qa_n2 (a : Nat → Int32) (b : Nat) : Nat → Int32 := upd (qa_n1 a b) (12 + 10 * b + 5) (qa_n1 a b (12 + 10 * b + 5) - (if qa_dry (qa_n1 a b) b = true then 1 else 0))
def qa_nt (a : Nat → Int32) : Nat → Int32 × (Nat → Int32)
  | 0 => (0, a)
  | b + 1 => ((qa_nt a b).1 + zz_b (qa_cr (qa_nt a b).2 b), qa_n2 (qa_nt a b).2 b)
def op_nights (a : Nat → Int32) (v0 : Int32) : Int32 × (Nat → Int32) :=
  if qa_in v0 (-40) 40 = false then (-2, a) else if a 4 = 999 then (-5, a) else
  ((qa_nt (upd a 7 (if v0 ≤ a 2 then 1 else 0)) (a 5).toNatClampNeg).1, upd (qa_nt (upd a 7 (if v0 ≤ a 2 then 1 else 0)) (a 5).toNatClampNeg).2 4 ((qa_nt (upd a 7 (if v0 ≤ a 2 then 1 else 0)) (a 5).toNatClampNeg).2 4 + 1))
theorem up_s {f : Nat → Int32} {k : Nat} {v : Int32} : upd f k v k = v := by simp [upd]
theorem up_n {f : Nat → Int32} {k j : Nat} {v : Int32} (h : j ≠ k) : upd f k v j = f j := by simp [upd, h]
theorem qa_zero_o {a : Nat → Int32} {b j : Nat} (h : j < 12 + 10 * b) : ∀ k, qa_zero a b k j = a j
  | 0 => rfl
  | k + 1 => by unfold qa_zero; rw [up_n (by omega)]; exact qa_zero_o h k
theorem qa_new_o {a : Nat → Int32} {nb j : Nat} {x y z d : Int32} (h : j < 12 + 10 * nb) (h5 : j ≠ 5) : qa_new a nb x y z d j = a j := by
  unfold qa_new
  rw [up_n (by omega), up_n (by omega), up_n (by omega), up_n (by omega), up_n (by omega), up_n (by omega), up_n (by omega), qa_zero_o h, up_n h5]
theorem qa_new_5 {a : Nat → Int32} {nb : Nat} {x y z d : Int32} : qa_new a nb x y z d 5 = a 5 + 1 := by
  unfold qa_new
  rw [up_n (by omega), up_n (by omega), up_n (by omega), up_n (by omega), up_n (by omega), up_n (by omega), up_n (by omega), qa_zero_o (by omega), up_s]
theorem qa_part0_o {a : Nat → Int32} {nb b k j : Nat} {sz : Int32} (h : j < 12 + 10 * nb) (h5 : j ≠ 5) : qa_part0 a nb b k sz j = a j := by
  unfold qa_part0 qa_cp
  rw [up_n (by omega), up_n (by omega), up_n (by omega), up_n (by omega), qa_new_o h h5]
theorem qa_part_o {a : Nat → Int32} {nb b k j : Nat} {sz : Int32} (h : j < 12 + 10 * nb) (h5 : j ≠ 5) (h9 : j ≠ 9) : qa_part a nb b k sz j = a j := by
  unfold qa_part
  rw [up_n h9, qa_part0_o h h5]
theorem qa_part_5 {a : Nat → Int32} {nb b k : Nat} {sz : Int32} : qa_part a nb b k sz 5 = a 5 + 1 := by
  unfold qa_part qa_part0 qa_cp
  rw [up_n (by omega), up_n (by omega), up_n (by omega), up_n (by omega), up_n (by omega), qa_new_5]
theorem qa_cut0_5 {a : Nat → Int32} {nb b k : Nat} {sz rest : Int32} : qa_cut0 a nb b k sz rest 5 = a 5 + 1 + 1 := by
  unfold qa_cut0
  rw [up_n (by omega), qa_part_5, qa_part_5, up_n (by omega)]
theorem qa_rf_o {a : Nat → Int32} {u : Bool} {nb j : Nat} (h : j < 12 + 10 * nb) : ∀ k, qa_rf a u nb k j = a j
  | 0 => rfl
  | k + 1 => by unfold qa_rf; rw [up_n (by omega)]; exact qa_rf_o h k
theorem qa_n1_o {a : Nat → Int32} {b j : Nat} (h : j < 12 + 10 * b) : qa_n1 a b j = a j := by unfold qa_n1; exact up_n (by omega)
theorem qa_n2_o {a : Nat → Int32} {b j : Nat} (h : j < 12 + 10 * b) : qa_n2 a b j = a j := by unfold qa_n2; rw [up_n (by omega)]; exact qa_n1_o h
theorem qa_nt_o {a : Nat → Int32} {j : Nat} (h : j < 12) : ∀ n, (qa_nt a n).2 j = a j
  | 0 => rfl
  | n + 1 => by
    show qa_n2 (qa_nt a n).2 n j = a j
    rw [qa_n2_o (by omega)]
    exact qa_nt_o h n
/-- what a change of the twin leaves: its row of three anything, its row of numbers as told -/
def tw_G (D : va_G) (h : zz_H) (ad : Nat → Nat) (h' : zz_H) (a' : Nat → Int32) : Prop := ∃ g : Nat → Int32, h' = zz_up (zz_up h (ad 6) (.inl (D.1 100, 3, .inl g))) (ad 0) (.inl (D.1 100, 324, .inl a'))
theorem tw_G.same {D : va_G} {h : zz_H} {ad : Nat → Nat} {a so : Nat → Int32} (h0 : h (ad 0) = some (.inl (D.1 100, 324, .inl a))) (h6 : h (ad 6) = some (.inl (D.1 100, 3, .inl so))) : tw_G D h ad h a := ⟨so, by rw [zz_upsame h6, zz_upsame h0]⟩
theorem tw_G.of0 {D : va_G} {h h' : zz_H} {ad : Nat → Nat} {so a' : Nat → Int32} (h6 : h (ad 6) = some (.inl (D.1 100, 3, .inl so))) (e : h' = zz_up h (ad 0) (.inl (D.1 100, 324, .inl a'))) : tw_G D h ad h' a' := ⟨so, by rw [zz_upsame h6, e]⟩
theorem tw_G.of6 {D : va_G} {h h' : zz_H} {ad : Nat → Nat} {a g : Nat → Int32} (h0 : h (ad 0) = some (.inl (D.1 100, 324, .inl a))) (hd : ad 0 ≠ ad 6) (e : h' = zz_up h (ad 6) (.inl (D.1 100, 3, .inl g))) : tw_G D h ad h' a := ⟨g, by rw [e, zz_upsame (zz_lk3 hd h0)]⟩
/-- then the row of numbers, or the row of three, again -/
theorem tw_G.up0 {D : va_G} {h h' h2 : zz_H} {ad : Nat → Nat} {a' a2 : Nat → Int32} (G : tw_G D h ad h' a') (e : h2 = zz_up h' (ad 0) (.inl (D.1 100, 324, .inl a2))) : tw_G D h ad h2 a2 := by
  obtain ⟨g, rfl⟩ := G
  exact ⟨g, by rw [e, zz_upup]⟩
theorem tw_G.up6 {D : va_G} {h h' h2 : zz_H} {ad : Nat → Nat} {a' g2 : Nat → Int32} (G : tw_G D h ad h' a') (hd : ad 0 ≠ ad 6) (e : h2 = zz_up h' (ad 6) (.inl (D.1 100, 3, .inl g2))) : tw_G D h ad h2 a' := by
  obtain ⟨g, rfl⟩ := G
  exact ⟨g2, by rw [e, zz_c3 (Ne.symm hd), zz_upswap hd]⟩
theorem tw_G.F {D : va_G} {h h' : zz_H} {x : Nat} {ad : Nat → Nat} {a' : Nat → Int32} (G : tw_G D h ad h' a') : tw_F x ad h h' := by
  obtain ⟨g, rfl⟩ := G
  exact (tw_F.up 6 (by decide)).tr (tw_F.up 0 (by decide))
theorem tw_G.X {D : va_G} {h h' : zz_H} {x : Nat} {ad : Nat → Nat} {a ah hi : Nat → Int32} {kp : Nat} {sl sv pd : Nat → Int32} {len : Nat} {so : Nat → Int32} {pos wr : Int32} {to a' : Nat → Int32} (G : tw_G D h ad h' a') (H : tw_X D h x ad a ah hi kp sl sv pd len so pos wr to) : ∃ so', tw_X D h' x ad a' ah hi kp sl sv pd len so' pos wr to := by
  obtain ⟨g, rfl⟩ := G
  exact ⟨g, (H.u6 g).u0 a'⟩
