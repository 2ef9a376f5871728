/-! THE LAYER: walks over an abstract heap (a partial map from addresses to cells) and a list of locals -/
abbrev zz_H : Type := Nat → Option va_E
def zz_up (h : zz_H) (a : Nat) (e : va_E) : zz_H := fun x => if x = a then some e else h x
theorem zz_us {h : zz_H} {a : Nat} {e : va_E} : zz_up h a e a = some e := by simp [zz_up]
theorem zz_un {h : zz_H} {a x : Nat} {e : va_E} (hx : x ≠ a) : zz_up h a e x = h x := by simp [zz_up, hx]
theorem zz_uf {h : zz_H} {a x : Nat} {e e' : va_E} (h1 : h x = some e') (h0 : h a = none) : zz_up h a e x = some e' := by
  rw [zz_un (fun q => by rw [q, h0] at h1; cases h1)]; exact h1
theorem zz_nf {h : zz_H} {a x : Nat} {e' : va_E} (h1 : h x = some e') (h0 : h a = none) : x ≠ a := fun q => by rw [q, h0] at h1; cases h1
/-- the classes of both sides, by number: 0 QuarryOrders, 1 Quarry, 2 Block, 3 Order, 4 Sizes, 5 Reader, 6 the twin, 7 ArrayList, 8 its iterator, 9 StringBuilder -/
def zz_cl : List vw_C := [(RX0, TX0, 4), (RX1, TX1, 13), (RX3, TX3, 9), (RX4, TX4, 4), (RX5, TX5, 3), (RX6, TX6, 4), (RX2, TX2, 12), (RJ2, TJ2, 3), (RJ9, TJ9, 4), (RJ4, TJ4, 4)]
/-- the arrays' classes: int, boolean, byte, Object, Quarry -/
abbrev zz_tys (D : va_G) : List (ClassId × FieldType) := [(D.1 100, .int), (D.1 101, .boolean), (D.1 102, .byte), (D.1 103, .object "java/lang/Object"), (D.1 104, .object "QuarryOrders$Quarry")]
def zz_P (D : va_G) (b0 : Nat) (h : zz_H) (H : Heap) : Prop := ∀ (a : Nat) (e : va_E), h a = some e → b0 ≤ a ∧ va_at D zz_cl (a, e) H
theorem zz_P.none {D : va_G} {b0 : Nat} {h : zz_H} {H : Heap} (hP : zz_P D b0 h H) : h H.size = none := by
  cases hh : h H.size with
  | none => rfl
  | some e => exact absurd (hP _ _ hh).2.lt (Nat.lt_irrefl _)
theorem zz_P.up {D : va_G} {b0 : Nat} {h : zz_H} {H H1 : Heap} {a : Nat} {e : va_E} (hP : zz_P D b0 h H) (hb : b0 ≤ a) (he : va_at D zz_cl (a, e) H1) (oq : ∀ q : Nat, q ≠ a → H1[q]? = H[q]?) : zz_P D b0 (zz_up h a e) H1 := by
  intro x e' hx
  by_cases hxa : x = a
  · subst hxa
    rw [zz_us] at hx
    cases hx
    exact ⟨hb, he⟩
  · rw [zz_un hxa] at hx
    exact ⟨(hP x e' hx).1, (hP x e' hx).2.kept (oq x hxa)⟩
theorem zz_P.new {D : va_G} {b0 : Nat} {h : zz_H} {H H1 : Heap} {a : Nat} {e : va_E} (hP : zz_P D b0 h H) (ha : a = H.size) (hb : b0 ≤ a) (he : va_at D zz_cl (a, e) H1) (oq : ∀ q : Nat, q < H.size → H1[q]? = H[q]?) : zz_P D b0 (zz_up h a e) H1 := by
  intro x e' hx
  by_cases hxa : x = a
  · subst hxa
    rw [zz_us] at hx
    cases hx
    exact ⟨hb, he⟩
  · rw [zz_un hxa] at hx
    exact ⟨(hP x e' hx).1, (hP x e' hx).2.kept (oq x (hP x e' hx).2.lt)⟩
theorem zz_P.mono {D : va_G} {b0 : Nat} {h h' : zz_H} {H : Heap} (hP : zz_P D b0 h H) (hm : ∀ x e, h' x = some e → h x = some e) : zz_P D b0 h' H := fun x e hx => hP x e (hm x e hx)
/-! what the tables and the statics say, carried through every call -/

def zz_nF : List (String × Nat × String × String × String × String) := [("QuarryOrders$Quarry", 14, "QuarryOrders", "FIRST", "[I", "QuarryOrders"), ("java/util/ArrayList$Itr", 28, "java/util/ArrayList", "size", "I", "java/util/ArrayList"), ("QuarryOrders", 145, "QuarryOrders$Quarry", "settings", "[I", "QuarryOrders"), ("QuarryOrders", 205, "QuarryOrders$Quarry", "front", "[I", "QuarryOrders"), ("QuarryOrders", 208, "QuarryOrders$Quarry", "rear", "[I", "QuarryOrders"), ("QuarryOrders", 211, "QuarryOrders$Quarry", "load", "[I", "QuarryOrders"), ("QuarryOrders", 287, "QuarryOrders$Quarry", "left", "[I", "QuarryOrders"), ("QuarryOrders", 56, "QuarryOrders$Quarry", "blocks", "Ljava/util/List;", "QuarryOrders"), ("QuarryOrders", 59, "QuarryOrders$Quarry", "orders", "Ljava/util/List;", "QuarryOrders"), ("QuarryOrders", 76, "QuarryOrders$Quarry", "frost", "Z", "QuarryOrders"), ("QuarryOrders", 131, "QuarryOrders$Quarry", "nights", "I", "QuarryOrders"), ("QuarryOrders", 295, "QuarryOrders$Quarry", "quarried", "I", "QuarryOrders"), ("QuarryOrders", 302, "QuarryOrders$Quarry", "lost", "I", "QuarryOrders"), ("QuarryOrders", 305, "QuarryOrders$Quarry", "delivered", "I", "QuarryOrders"), ("QuarryOrders", 308, "QuarryOrders$Quarry", "invoices", "I", "QuarryOrders"), ("QuarryOrders$Reader", 31, "QuarryOrders", "pad", "Ljava/lang/StringBuilder;", "QuarryOrders"), ("QuarryOrders$Quarry", 101, "QuarryOrders$Block", "number", "I", "QuarryOrders"), ("QuarryOrders", 349, "QuarryOrders$Block", "number", "I", "QuarryOrders"), ("QuarryOrders$Quarry", 123, "QuarryOrders$Block", "sizes", "LQuarryOrders$Sizes;", "QuarryOrders"), ("QuarryOrders", 244, "QuarryOrders$Block", "sizes", "LQuarryOrders$Sizes;", "QuarryOrders"), ("QuarryOrders$Quarry", 133, "QuarryOrders$Block", "density", "I", "QuarryOrders"), ("QuarryOrders", 251, "QuarryOrders$Block", "density", "I", "QuarryOrders"), ("QuarryOrders", 263, "QuarryOrders$Block", "from", "I", "QuarryOrders"), ("QuarryOrders$Quarry", 98, "QuarryOrders$Block", "where", "I", "QuarryOrders"), ("QuarryOrders", 104, "QuarryOrders$Block", "where", "I", "QuarryOrders"), ("QuarryOrders$Quarry", 136, "QuarryOrders$Block", "wet", "I", "QuarryOrders"), ("QuarryOrders", 257, "QuarryOrders$Block", "wet", "I", "QuarryOrders"), ("QuarryOrders$Quarry", 158, "QuarryOrders$Block", "order", "I", "QuarryOrders"), ("QuarryOrders", 84, "QuarryOrders$Block", "order", "I", "QuarryOrders"), ("QuarryOrders$Quarry", 176, "QuarryOrders$Block", "place", "I", "QuarryOrders"), ("QuarryOrders", 217, "QuarryOrders$Block", "place", "I", "QuarryOrders"), ("QuarryOrders$Quarry", 145, "QuarryOrders$Block", "cracked", "Z", "QuarryOrders"), ("QuarryOrders", 260, "QuarryOrders$Block", "cracked", "Z", "QuarryOrders"), ("QuarryOrders$Quarry", 161, "QuarryOrders$Order", "sizes", "LQuarryOrders$Sizes;", "QuarryOrders"), ("QuarryOrders", 266, "QuarryOrders$Order", "sizes", "LQuarryOrders$Sizes;", "QuarryOrders"), ("QuarryOrders$Quarry", 166, "QuarryOrders$Order", "state", "I", "QuarryOrders"), ("QuarryOrders", 117, "QuarryOrders$Order", "state", "I", "QuarryOrders"), ("QuarryOrders", 195, "QuarryOrders$Order", "block", "I", "QuarryOrders"), ("QuarryOrders$Quarry", 201, "QuarryOrders$Order", "invoice", "I", "QuarryOrders"), ("QuarryOrders", 267, "QuarryOrders$Order", "invoice", "I", "QuarryOrders"), ("QuarryOrders", 373, "QuarryOrders$Reader", "orders", "Ljava/util/List;", "QuarryOrders"), ("QuarryOrders", 370, "QuarryOrders$Reader", "spot", "I", "QuarryOrders"), ("QuarryOrders", 367, "QuarryOrders$Reader", "isWrong", "Z", "QuarryOrders")]
def zz_nM : List (String × Nat × MethodName × String) := [("QuarryOrders", 154, ⟨"QuarryOrders$Sizes", "<init>", "(III)V"⟩, "QuarryOrders"), ("QuarryOrders$Sizes", 41, ⟨"QuarryOrders", "isIn", "(III)Z"⟩, "QuarryOrders")]
def zz_nC : List (String × String) := [("[I", "java/lang/Cloneable"), ("java/util/ArrayList", "java/util/List"), ("java/util/ArrayList$Itr", "java/util/Iterator"), ("[B", "java/lang/Cloneable"), ("QuarryOrders$Quarry", "java/lang/Object"), ("QuarryOrders", "java/lang/Object"), ("java/util/ArrayList", "java/lang/Object"), ("java/lang/StringBuilder", "java/lang/Object"), ("QuarryOrdersModel", "java/lang/Object"), ("java/util/ArrayList$Itr", "java/lang/Object"), ("QuarryOrders$Block", "java/lang/Object"), ("QuarryOrders$Order", "java/lang/Object"), ("QuarryOrders$Sizes", "java/lang/Object"), ("QuarryOrders$Reader", "java/lang/Object"), ("java/lang/String", "java/lang/Object"), ("[I", "java/lang/Object"), ("[LQuarryOrders$Quarry;", "java/lang/Object"), ("[B", "java/lang/Object"), ("[Ljava/lang/Object;", "java/lang/Object"), ("[Z", "java/lang/Object")]
def zz_nI : List (String × MethodName × MethodName) := [("java/util/ArrayList", ⟨"java/util/List", "size", "()I"⟩, ⟨"java/util/ArrayList", "size", "()I"⟩), ("java/util/ArrayList", ⟨"java/util/List", "remove", "(I)Ljava/lang/Object;"⟩, ⟨"java/util/ArrayList", "remove", "(I)Ljava/lang/Object;"⟩), ("java/util/ArrayList", ⟨"java/util/List", "iterator", "()Ljava/util/Iterator;"⟩, ⟨"java/util/ArrayList", "iterator", "()Ljava/util/Iterator;"⟩), ("java/util/ArrayList", ⟨"java/util/List", "add", "(Ljava/lang/Object;)Z"⟩, ⟨"java/util/ArrayList", "add", "(Ljava/lang/Object;)Z"⟩), ("java/util/ArrayList", ⟨"java/util/List", "get", "(I)Ljava/lang/Object;"⟩, ⟨"java/util/ArrayList", "get", "(I)Ljava/lang/Object;"⟩), ("java/util/ArrayList", ⟨"java/util/List", "isEmpty", "()Z"⟩, ⟨"java/util/ArrayList", "isEmpty", "()Z"⟩), ("java/util/ArrayList$Itr", ⟨"java/util/Iterator", "hasNext", "()Z"⟩, ⟨"java/util/ArrayList$Itr", "hasNext", "()Z"⟩), ("java/util/ArrayList$Itr", ⟨"java/util/Iterator", "next", "()Ljava/lang/Object;"⟩, ⟨"java/util/ArrayList$Itr", "next", "()Ljava/lang/Object;"⟩)]
def zz_I0 (D : va_G) (b0 : Nat) (U : State) (C : String) (n : String) (k : Nat) (f : Nat → Value) : Prop := va_Z C n "[I" (.ref (D.2 1000 k)) (fun q => b0 ≤ q) U U.heap ∧ va_T .int (D.2 1000 k) 4 f (fun q => b0 ≤ q) U U.heap ∧ va_O "[I" (D.2 1000 k) (fun q => b0 ≤ q) U U.heap
def zz_fL : Nat → Value := fun k => match k with | 0 => .int 0 | 1 => .int 1 | 2 => .int (-20) | _ => .int 0
def zz_fM : Nat → Value := fun k => match k with | 0 => .int 9 | 1 => .int 99 | 2 => .int 0 | _ => .int 30
def zz_fF : Nat → Value := fun k => match k with | 0 => .int 2 | 1 => .int 12 | 2 => .int (-3) | _ => .int 5
def zz_gF : Nat → Int32 := fun k => match k with | 0 => 2 | 1 => 12 | 2 => -3 | _ => 5
def zz_fS : Nat → Value := fun k => match k with | 0 => .int 113 | 1 => .int 99 | 2 => .int 111 | 3 => .int 103 | 4 => .int 108 | 5 => .int 110 | _ => .int 100
/-- the statics: 0 LEAST, 1 MOST, 2 FIRST, 3 the empty table of ArrayList -/
def zz_Z (D : va_G) (b0 : Nat) (U : State) : Prop :=
  zz_I0 D b0 U "QuarryOrders" "LEAST" 0 zz_fL ∧ zz_I0 D b0 U "QuarryOrders" "MOST" 1 zz_fM ∧ zz_I0 D b0 U "QuarryOrders" "FIRST" 2 zz_fF ∧
  va_Z "java/util/ArrayList" "DEFAULTCAPACITY_EMPTY_ELEMENTDATA" "[Ljava/lang/Object;" (.ref (D.2 1000 3)) (fun q => b0 ≤ q) U U.heap ∧ va_T (.object "java/lang/Object") (D.2 1000 3) 0 (fun _ => .null) (fun q => b0 ≤ q) U U.heap ∧
  va_Z "java/lang/String" "COMPACT_STRINGS" "Z" (.int 1) (fun q => b0 ≤ q) U U.heap ∧
  vk_R RX6 94 "qcoglnd" (D.2 1000 4) U ∧ va_O "java/lang/String" (D.2 1000 4) (fun q => b0 ≤ q) U U.heap ∧ va_OF "java/lang/String" "coder" "B" (.int 0) (D.2 1000 4) (fun q => b0 ≤ q) U U.heap ∧ va_OF "java/lang/String" "value" "[B" (.ref (D.2 1000 5)) (D.2 1000 4) (fun q => b0 ≤ q) U U.heap ∧ va_T .byte (D.2 1000 5) 7 zz_fS (fun q => b0 ≤ q) U U.heap ∧ va_X (D.2 1000 2) 4 zz_gF U U.heap ∧ va_Mi "[Ljava/lang/Object;" (D.2 1000 6) U ∧ va_Z "jdk/internal/util/Preconditions" "SIOOBE_FORMATTER" "Ljava/util/function/BiFunction;" (.ref (D.2 1000 7)) (fun q => b0 ≤ q) U U.heap
def zz_nP : List Cond := [.selects "java/lang/StringBuilder" ⟨"java/lang/AbstractStringBuilder", "newCapacity", "(I)I"⟩ ⟨"java/lang/AbstractStringBuilder", "newCapacity", "(I)I"⟩, .selects "java/lang/StringBuilder" ⟨"java/lang/AbstractStringBuilder", "ensureCapacityInternal", "(I)V"⟩ ⟨"java/lang/AbstractStringBuilder", "ensureCapacityInternal", "(I)V"⟩]
theorem zz_nP_ok : ∀ w ∈ zz_nP, goodWord w = true := by decide +kernel
def zz_N (U : State) : Prop :=
  (∀ t ∈ zz_nF, va_Nw (.fieldLinkNest t.1 t.2.1 t.2.2.1 t.2.2.2.1 t.2.2.2.2.1 t.2.2.2.2.2) U) ∧ (∀ t ∈ zz_nM, va_Nw (.methodLinkNest t.1 t.2.1 t.2.2.1 t.2.2.2) U) ∧ (∀ t ∈ zz_nC, va_Nw (.castable t.1 t.2) U) ∧ (∀ t ∈ zz_nI, va_Fw t.1 t.2.1 t.2.2 U) ∧ va_AO "java/lang/Object" U ∧ va_AO "QuarryOrders$Quarry" U ∧ va_Dc U ∧ (∃ mi, va_Mi "[Ljava/lang/Object;" mi U) ∧ ∀ w ∈ zz_nP, w.before #[] U = true
def zz_K (D : va_G) (b0 : Nat) (U : State) : Prop := va_K D zz_cl (zz_tys D) U ∧ zz_N U ∧ zz_Z D b0 U
theorem zz_nI_ok : ∀ t ∈ zz_nI, t.2.1.cls ≠ "java/lang/invoke/MethodHandle" ∧ t.2.1.cls ≠ "java/lang/invoke/VarHandle" := by decide +kernel
theorem zz_N.warm {s U : State} (hW : s.WarmedH U.vm) (h : zz_N s) : zz_N U := by
  obtain ⟨h1, h2, h3, h4, h5, h6, h7, ⟨mi, h8⟩, h9⟩ := h
  exact ⟨fun t ht => va_Nw.warmF hW (h1 t ht), fun t ht => va_Nw.warmM hW (h2 t ht), fun t ht => va_Nw.warmC hW (h3 t ht), fun t ht => (h4 t ht).moved (zz_nI_ok t ht) hW.alike, h5.moved hW.alike, h6.moved hW.alike, h7.moved hW.alike, ⟨mi, h8.moved hW.alike⟩, fun w hw => word_at hW (good_of_word (zz_nP_ok w hw)) (h9 w hw)⟩
theorem zz_Z.warm {D : va_G} {b0 : Nat} {s U : State} (hW : s.WarmedH U.vm) (hk : ∀ a : Nat, a < s.heap.size → ¬ b0 ≤ a → U.heap[a]? = s.heap[a]?) (h : zz_Z D b0 s) : zz_Z D b0 U := by
  obtain ⟨⟨a1, a2, a3⟩, ⟨b1, b2, b3⟩, ⟨c1, c2, c3⟩, d1, d2, e1, f1, f2, f3, f4, f5, g1, g2, g3⟩ := h
  refine ⟨⟨(a1.moved hW.alike).kept hk, (a2.moved hW.alike).kept hk, (a3.moved hW.alike).kept hk⟩, ⟨(b1.moved hW.alike).kept hk, (b2.moved hW.alike).kept hk, (b3.moved hW.alike).kept hk⟩, ⟨(c1.moved hW.alike).kept hk, (c2.moved hW.alike).kept hk, (c3.moved hW.alike).kept hk⟩, (d1.moved hW.alike).kept hk, (d2.moved hW.alike).kept hk, (e1.moved hW.alike).kept hk, f1.warm hW, (f2.moved hW.alike).kept hk, (f3.moved hW.alike).kept hk, (f4.moved hW.alike).kept hk, (f5.moved hW.alike).kept hk, (g1.moved hW.alike).kept (hk _ (Array.getElem?_eq_some_iff.mp g1.choose_spec.1).1 c2.out), g2.moved hW.alike, (g3.moved hW.alike).kept hk⟩
theorem zz_K.warm {D : va_G} {b0 : Nat} {s U : State} (hW : s.WarmedH U.vm) (hk : ∀ a : Nat, a < s.heap.size → ¬ b0 ≤ a → U.heap[a]? = s.heap[a]?) (h : zz_K D b0 s) : zz_K D b0 U := ⟨h.1.moved hW.alike, h.2.1.warm hW, h.2.2.warm hW hk⟩
theorem zz_K.call {D : va_G} {b0 : Nat} {U : State} (g : JFrame) (mk : MethodId) (a : Array Value) (h : zz_K D b0 U) : zz_K D b0 (U.calling g mk a) := h.warm (State.WarmedH.refl U) (fun _ _ _ => rfl)
/-! locals as a list -/
def zz_at : List (Nat × Value) → Nat → Option Value
  | [], _ => none
  | q :: r, i => bif Nat.beq q.1 i then some q.2 else zz_at r i
theorem zz_at_mem {l : List (Nat × Value)} {i : Nat} {v : Value} (h : zz_at l i = some v) : (i, v) ∈ l := by
  induction l with
  | nil => cases h
  | cons q r ih =>
    unfold zz_at at h
    cases hq : Nat.beq q.1 i with
    | true =>
      rw [hq] at h
      have e1 : q.1 = i := Nat.eq_of_beq_eq_true hq
      have e2 : q.2 = v := Option.some.inj h
      rw [← e1, ← e2]
      exact List.mem_cons_self
    | false =>
      rw [hq] at h
      exact List.mem_cons_of_mem _ (ih h)
def zz_set : List (Nat × Value) → Nat → Value → List (Nat × Value)
  | [], i, v => [(i, v)]
  | q :: r, i, v => bif Nat.beq q.1 i then zz_set r i v else bif Nat.beq (q.1 + 1) i && Nat.beq q.2.category 2 then zz_set r i v else q :: zz_set r i v
def zz_set2 : List (Nat × Value) → Nat → Value → List (Nat × Value)
  | [], i, v => [(i, v)]
  | q :: r, i, v => bif Nat.beq q.1 i || Nat.beq q.1 (i + 1) then zz_set2 r i v else bif Nat.beq (q.1 + 1) i && Nat.beq q.2.category 2 then zz_set2 r i v else q :: zz_set2 r i v
theorem zz_set_mem {l : List (Nat × Value)} {i : Nat} {v : Value} {x : Nat × Value} (h : x ∈ zz_set l i v) : x ∈ (i, v) :: l.filter (fun q => !(q.1 == i) && !(q.1 + 1 == i && q.2.category == 2)) := by
  induction l with
  | nil => exact h
  | cons q r ih =>
    unfold zz_set at h
    have hm : ∀ {x}, x ∈ (i, v) :: r.filter (fun q => !(q.1 == i) && !(q.1 + 1 == i && q.2.category == 2)) → x ∈ (i, v) :: (q :: r).filter (fun q => !(q.1 == i) && !(q.1 + 1 == i && q.2.category == 2)) := by
      intro x hx
      rcases List.mem_cons.mp hx with e | e
      · rw [e]; exact List.mem_cons_self
      · refine List.mem_cons_of_mem _ ?_
        rw [List.mem_filter] at e ⊢
        exact ⟨List.mem_cons_of_mem _ e.1, e.2⟩
    cases h1 : Nat.beq q.1 i with
    | true =>
      rw [h1] at h
      exact hm (ih h)
    | false =>
      rw [h1] at h
      cases h2 : (Nat.beq (q.1 + 1) i && Nat.beq q.2.category 2) with
      | true =>
        rw [h2] at h
        exact hm (ih h)
      | false =>
        rw [h2] at h
        rcases List.mem_cons.mp h with e | e
        · rw [e]
          refine List.mem_cons_of_mem _ ?_
          rw [List.mem_filter]
          refine ⟨List.mem_cons_self, ?_⟩
          have n1 : ¬ q.1 = i := Nat.ne_of_beq_eq_false h1
          simp only [Bool.and_eq_true, Bool.not_eq_true', beq_eq_false_iff_ne, ne_eq, Bool.and_eq_false_iff]
          exact ⟨n1, (Bool.and_eq_false_iff.mp h2).imp Nat.ne_of_beq_eq_false Nat.ne_of_beq_eq_false⟩
        · exact hm (ih e)
theorem zz_set2_mem {l : List (Nat × Value)} {i : Nat} {v : Value} {x : Nat × Value} (h : x ∈ zz_set2 l i v) : x ∈ (i, v) :: l.filter (fun q => !(q.1 == i) && (!(q.1 == i + 1) && !(q.1 + 1 == i && q.2.category == 2))) := by
  induction l with
  | nil => exact h
  | cons q r ih =>
    unfold zz_set2 at h
    have hm : ∀ {x}, x ∈ (i, v) :: r.filter (fun q => !(q.1 == i) && (!(q.1 == i + 1) && !(q.1 + 1 == i && q.2.category == 2))) → x ∈ (i, v) :: (q :: r).filter (fun q => !(q.1 == i) && (!(q.1 == i + 1) && !(q.1 + 1 == i && q.2.category == 2))) := by
      intro x hx
      rcases List.mem_cons.mp hx with e | e
      · rw [e]; exact List.mem_cons_self
      · refine List.mem_cons_of_mem _ ?_
        rw [List.mem_filter] at e ⊢
        exact ⟨List.mem_cons_of_mem _ e.1, e.2⟩
    cases h1 : (Nat.beq q.1 i || Nat.beq q.1 (i + 1)) with
    | true =>
      rw [h1] at h
      exact hm (ih h)
    | false =>
      rw [h1] at h
      cases h2 : (Nat.beq (q.1 + 1) i && Nat.beq q.2.category 2) with
      | true =>
        rw [h2] at h
        exact hm (ih h)
      | false =>
        rw [h2] at h
        rcases List.mem_cons.mp h with e | e
        · rw [e]
          refine List.mem_cons_of_mem _ ?_
          rw [List.mem_filter]
          refine ⟨List.mem_cons_self, ?_⟩
          rw [Bool.or_eq_false_iff] at h1
          have n1 : ¬ q.1 = i := Nat.ne_of_beq_eq_false h1.1
          have n2 : ¬ q.1 = i + 1 := Nat.ne_of_beq_eq_false h1.2
          simp only [Bool.and_eq_true, Bool.not_eq_true', beq_eq_false_iff_ne, ne_eq, Bool.and_eq_false_iff]
          exact ⟨n1, n2, (Bool.and_eq_false_iff.mp h2).imp Nat.ne_of_beq_eq_false Nat.ne_of_beq_eq_false⟩
        · exact hm (ih e)
theorem zz_has {la : Array Slot} {nL : Nat} {l l' : List (Nat × Value)} (h : lv_has la nL l) (hm : ∀ x ∈ l', x ∈ l) : lv_has la nL l' := ⟨h.1, h.2.1, fun q hq => h.2.2 q (hm q hq)⟩
theorem zz_get_at {la : Array Slot} {nL : Nat} {l : List (Nat × Value)} {i : Nat} {v : Value} (h : lv_has la nL l) (hq : zz_at l i = some v) : la[i]? = some (.val v) := h.2.2 (i, v) (zz_at_mem hq)
def zz_sub : List (Nat × Value) → List (Nat × Value) → Prop
  | [], _ => True
  | q :: r, l => zz_at l q.1 = some q.2 ∧ zz_sub r l
theorem zz_sub_mem {l l' : List (Nat × Value)} (h : zz_sub l' l) : ∀ x ∈ l', x ∈ l := by
  induction l' with
  | nil => intro x hx; cases hx
  | cons q r ih =>
    intro x hx
    rcases List.mem_cons.mp hx with e | e
    · rw [e]; exact zz_at_mem h.1
    · exact ih h.2 x e
/-- a truth value as an int -/
def zz_b (b : Bool) : Int32 := bif b then 1 else 0
theorem zz_b01 (b : Bool) : zz_b b = 0 ∨ zz_b b = 1 := by cases b <;> simp [zz_b]
theorem zz_b0 {b : Bool} : zz_b b = 0 ↔ b = false := by cases b <;> simp [zz_b]
/-- what a method's body stands on -/
def zz_C (D : va_G) (b0 : Nat) (y : MethodName) (cc : ByteArray) (nL : Nat) (ret : Option FieldType) (p : Program) (s : State) (m : MethodId) (args : Array Value) (meth : Method) (c : Code) : Prop :=
  p.tables.exec = Jvm.exec ∧ c.code = cc ∧ c.maxLocals = nL ∧ s.vm.findClass y.cls = some m.cls ∧ (∀ w ∈ lw_all, w.before args s = true) ∧ meth.sig.returnType = ret ∧ meth.locks = false ∧ meth.name = y.name ∧ b0 ≤ s.heap.size ∧ zz_K D b0 s
/-- the walk over the abstract heap -/
def zz_V (D : va_G) (b0 nL : Nat) (p : Program) (l : Launch) (e : Env) (R : Room) (s : State) (m : MethodId) (args : Array Value) (below : List Frame) (meth : Method) (c : Code) (Q : State → Prop) (cs ss : Nat) (h : zz_H) (lo : List (Nat × Value)) (pc : Nat) (st : List Value) : Prop :=
  ∀ (H : Heap) (locs : List Loc) (la : Array Slot), zz_P D b0 h H → va_S (fun q => b0 ≤ q) s.heap H locs → lv_has la nL lo → W p l e R s m args below meth c H locs cs ss Q (F0 m pc la st)
def zz_Q (D : va_G) (b0 : Nat) (post : Option Value → zz_H → Prop) : Array Value → State → Outcome → State → Prop := fun _ st oc t => (∃ (v : Option Value) (h' : zz_H), oc = .returned v ∧ post v h' ∧ zz_P D b0 h' t.heap) ∧ va_F (fun q => b0 ≤ q) st t
/-- a CONTRACT: from the abstract heap h with these arguments the method returns, 'post answer heap' -/
def zz_Ct (l : Launch) (D : va_G) (b0 : Nat) (y : MethodName) (cc : ByteArray) (nL : Nat) (ret : Option FieldType) (fr lc mc ms : Nat) (as : List Value) (h : zz_H) (post : Option Value → zz_H → Prop) : Prop :=
  Met l y (ws_ y cc nL ret) ({ frames := fr, cells := mc, slots := ms, locals := lc } : Jvm.Room) (va_Pc as (fun U => zz_K D b0 U ∧ b0 ≤ U.heap.size ∧ zz_P D b0 h U.heap)) (zz_Q D b0 post) mc ms (fun q => b0 ≤ q)
section ZZ
variable {D : va_G} {b0 : Nat} {p : Program} {l : Launch} {e : Env} {R : Room} {s : State} {m : MethodId} {args : Array Value} {below : List Frame} {meth : Method} {c : Code} {Q : State → Prop} {cs ss : Nat} {h : zz_H} {lo : List (Nat × Value)} {y : MethodName} {cc : ByteArray} {nL : Nat} {ret : Option FieldType} {pc : Nat} {st : List Value}
theorem zz_go {cs' ss' : Nat} {h' : zz_H} {lo' : List (Nat × Value)} {pc' : Nat} {st' : List Value} (hk : zz_V D b0 nL p l e R s m args below meth c Q cs' ss' h' lo' pc' st') (e1 : cs = cs') (e2 : ss = ss') (e3 : h = h') (e4 : lo = lo') (e5 : pc = pc') (e6 : st = st') : zz_V D b0 nL p l e R s m args below meth c Q cs ss h lo pc st := by
  subst e1 e2 e3 e4 e5 e6; exact hk
theorem zz_widen {cs' ss' : Nat} (h1 : cs ≤ cs') (h2 : ss ≤ ss') (k : zz_V D b0 nL p l e R s m args below meth c Q cs' ss' h lo pc st) : zz_V D b0 nL p l e R s m args below meth c Q cs ss h lo pc st := fun H locs la hP hS hl => W.widen h1 h2 (k H locs la hP hS hl)
theorem zz_loc (lo' : List (Nat × Value)) (hs : zz_sub lo' lo) (k : zz_V D b0 nL p l e R s m args below meth c Q cs ss h lo' pc st) : zz_V D b0 nL p l e R s m args below meth c Q cs ss h lo pc st := fun H locs la hP hS hl => k H locs la hP hS (zz_has hl (zz_sub_mem hs))
theorem zz_less {h' : zz_H} (hm : ∀ x e, h' x = some e → h x = some e) (k : zz_V D b0 nL p l e R s m args below meth c Q cs ss h' lo pc st) : zz_V D b0 nL p l e R s m args below meth c Q cs ss h lo pc st := fun H locs la hP hS hl => k H locs la (hP.mono hm) hS hl

theorem zz_iconst (C : zz_C D b0 y cc nL ret p s m args meth c) {n : Int} {v : Int32} (hdg : decode cc pc = .ok (.iconst n, 1)) (hv : Int32.ofInt n = v) (k : zz_V D b0 nL p l e R s m args below meth c Q cs ss h lo (pc + 1) (.int v :: st)) : zz_V D b0 nL p l e R s m args below meth c Q cs ss h lo pc st := fun H locs la hP hS hl => lv_iconst C.1 C.2.1 hdg hv (k H locs la hP hS hl)
theorem zz_bipush (C : zz_C D b0 y cc nL ret p s m args meth c) {n : Int} {v : Int32} (hdg : decode cc pc = .ok (.bipush n, 2)) (hv : (Int8.ofInt n).toInt32 = v) (k : zz_V D b0 nL p l e R s m args below meth c Q cs ss h lo (pc + 2) (.int v :: st)) : zz_V D b0 nL p l e R s m args below meth c Q cs ss h lo pc st := fun H locs la hP hS hl => lv_bipush C.1 C.2.1 hdg hv (k H locs la hP hS hl)
theorem zz_sipush (C : zz_C D b0 y cc nL ret p s m args meth c) {n : Int} {v : Int32} (hdg : decode cc pc = .ok (.sipush n, 3)) (hv : (Int16.ofInt n).toInt32 = v) (k : zz_V D b0 nL p l e R s m args below meth c Q cs ss h lo (pc + 3) (.int v :: st)) : zz_V D b0 nL p l e R s m args below meth c Q cs ss h lo pc st := fun H locs la hP hS hl => lv_sipush C.1 C.2.1 hdg hv (k H locs la hP hS hl)
theorem zz_lconst (C : zz_C D b0 y cc nL ret p s m args meth c) {n : Fin 2} {v : Int64} (hdg : decode cc pc = .ok (.lconst n, 1)) (hv : Int64.ofNat (n : Nat) = v) (k : zz_V D b0 nL p l e R s m args below meth c Q cs ss h lo (pc + 1) (.long v :: st)) : zz_V D b0 nL p l e R s m args below meth c Q cs ss h lo pc st := fun H locs la hP hS hl => lv_lconst C.1 C.2.1 hdg hv (k H locs la hP hS hl)
theorem zz_fconst0 (C : zz_C D b0 y cc nL ret p s m args meth c) (hdg : decode cc pc = .ok (.fconst 0, 1)) (k : zz_V D b0 nL p l e R s m args below meth c Q cs ss h lo (pc + 1) (.float FP.fconst0 :: st)) : zz_V D b0 nL p l e R s m args below meth c Q cs ss h lo pc st := fun H locs la hP hS hl => lv_fconst0 C.1 C.2.1 hdg (k H locs la hP hS hl)
theorem zz_fconst1 (C : zz_C D b0 y cc nL ret p s m args meth c) (hdg : decode cc pc = .ok (.fconst 1, 1)) (k : zz_V D b0 nL p l e R s m args below meth c Q cs ss h lo (pc + 1) (.float FP.fconst1 :: st)) : zz_V D b0 nL p l e R s m args below meth c Q cs ss h lo pc st := fun H locs la hP hS hl => lv_fconst1 C.1 C.2.1 hdg (k H locs la hP hS hl)
theorem zz_fconst2 (C : zz_C D b0 y cc nL ret p s m args meth c) (hdg : decode cc pc = .ok (.fconst 2, 1)) (k : zz_V D b0 nL p l e R s m args below meth c Q cs ss h lo (pc + 1) (.float FP.fconst2 :: st)) : zz_V D b0 nL p l e R s m args below meth c Q cs ss h lo pc st := fun H locs la hP hS hl => lv_fconst2 C.1 C.2.1 hdg (k H locs la hP hS hl)
theorem zz_dconst0 (C : zz_C D b0 y cc nL ret p s m args meth c) (hdg : decode cc pc = .ok (.dconst 0, 1)) (k : zz_V D b0 nL p l e R s m args below meth c Q cs ss h lo (pc + 1) (.double FP.dconst0 :: st)) : zz_V D b0 nL p l e R s m args below meth c Q cs ss h lo pc st := fun H locs la hP hS hl => lv_dconst0 C.1 C.2.1 hdg (k H locs la hP hS hl)
theorem zz_dconst1 (C : zz_C D b0 y cc nL ret p s m args meth c) (hdg : decode cc pc = .ok (.dconst 1, 1)) (k : zz_V D b0 nL p l e R s m args below meth c Q cs ss h lo (pc + 1) (.double FP.dconst1 :: st)) : zz_V D b0 nL p l e R s m args below meth c Q cs ss h lo pc st := fun H locs la hP hS hl => lv_dconst1 C.1 C.2.1 hdg (k H locs la hP hS hl)
theorem zz_iload_n (C : zz_C D b0 y cc nL ret p s m args meth c) {k : Fin 4} {x : Int32} (hdg : decode cc pc = .ok (.iload_n k, 1)) (hl0 : zz_at lo k = some (.int x)) (kk : zz_V D b0 nL p l e R s m args below meth c Q cs ss h lo (pc + 1) (.int x :: st)) : zz_V D b0 nL p l e R s m args below meth c Q cs ss h lo pc st := fun H locs la hP hS hl => lv_iload_n C.1 C.2.1 hdg rfl (zz_get_at hl hl0) (kk H locs la hP hS hl)
theorem zz_iload (C : zz_C D b0 y cc nL ret p s m args meth c) {i : Nat} {x : Int32} (hdg : decode cc pc = .ok (.iload i, 2)) (hl0 : zz_at lo i = some (.int x)) (kk : zz_V D b0 nL p l e R s m args below meth c Q cs ss h lo (pc + 2) (.int x :: st)) : zz_V D b0 nL p l e R s m args below meth c Q cs ss h lo pc st := fun H locs la hP hS hl => lv_iload C.1 C.2.1 hdg (zz_get_at hl hl0) (kk H locs la hP hS hl)
theorem zz_istore_n (C : zz_C D b0 y cc nL ret p s m args meth c) {k : Fin 4} {x : Int32} (hdg : decode cc pc = .ok (.istore_n k, 1)) (hn : (k : Nat) < nL) (kk : zz_V D b0 nL p l e R s m args below meth c Q cs ss h (zz_set lo k (.int x)) (pc + 1) st) : zz_V D b0 nL p l e R s m args below meth c Q cs ss h lo pc (.int x :: st) := fun H locs la hP hS hl => lv_istore_n C.1 C.2.1 hdg rfl hl hn rfl (fun la1 hl1 => kk H locs la1 hP hS (zz_has hl1 (fun _ hx => zz_set_mem hx)))
theorem zz_istore (C : zz_C D b0 y cc nL ret p s m args meth c) {i : Nat} {x : Int32} (hdg : decode cc pc = .ok (.istore i, 2)) (hn : i < nL) (kk : zz_V D b0 nL p l e R s m args below meth c Q cs ss h (zz_set lo i (.int x)) (pc + 2) st) : zz_V D b0 nL p l e R s m args below meth c Q cs ss h lo pc (.int x :: st) := fun H locs la hP hS hl => lv_istore C.1 C.2.1 hdg hl hn rfl (fun la1 hl1 => kk H locs la1 hP hS (zz_has hl1 (fun _ hx => zz_set_mem hx)))
theorem zz_aload_n (C : zz_C D b0 y cc nL ret p s m args meth c) {k : Fin 4} {x : Nat} (hdg : decode cc pc = .ok (.aload_n k, 1)) (hl0 : zz_at lo k = some (.ref x)) (kk : zz_V D b0 nL p l e R s m args below meth c Q cs ss h lo (pc + 1) (.ref x :: st)) : zz_V D b0 nL p l e R s m args below meth c Q cs ss h lo pc st := fun H locs la hP hS hl => lv_aload_n C.1 C.2.1 hdg rfl (zz_get_at hl hl0) (kk H locs la hP hS hl)
theorem zz_aload (C : zz_C D b0 y cc nL ret p s m args meth c) {i : Nat} {x : Nat} (hdg : decode cc pc = .ok (.aload i, 2)) (hl0 : zz_at lo i = some (.ref x)) (kk : zz_V D b0 nL p l e R s m args below meth c Q cs ss h lo (pc + 2) (.ref x :: st)) : zz_V D b0 nL p l e R s m args below meth c Q cs ss h lo pc st := fun H locs la hP hS hl => lv_aload C.1 C.2.1 hdg (zz_get_at hl hl0) (kk H locs la hP hS hl)
theorem zz_astore_n (C : zz_C D b0 y cc nL ret p s m args meth c) {k : Fin 4} {x : Nat} (hdg : decode cc pc = .ok (.astore_n k, 1)) (hn : (k : Nat) < nL) (kk : zz_V D b0 nL p l e R s m args below meth c Q cs ss h (zz_set lo k (.ref x)) (pc + 1) st) : zz_V D b0 nL p l e R s m args below meth c Q cs ss h lo pc (.ref x :: st) := fun H locs la hP hS hl => lv_astore_n C.1 C.2.1 hdg rfl hl hn rfl (fun la1 hl1 => kk H locs la1 hP hS (zz_has hl1 (fun _ hx => zz_set_mem hx)))
theorem zz_astore (C : zz_C D b0 y cc nL ret p s m args meth c) {i : Nat} {x : Nat} (hdg : decode cc pc = .ok (.astore i, 2)) (hn : i < nL) (kk : zz_V D b0 nL p l e R s m args below meth c Q cs ss h (zz_set lo i (.ref x)) (pc + 2) st) : zz_V D b0 nL p l e R s m args below meth c Q cs ss h lo pc (.ref x :: st) := fun H locs la hP hS hl => lv_astore C.1 C.2.1 hdg hl hn rfl (fun la1 hl1 => kk H locs la1 hP hS (zz_has hl1 (fun _ hx => zz_set_mem hx)))
theorem zz_lload_n (C : zz_C D b0 y cc nL ret p s m args meth c) {k : Fin 4} {x : Int64} (hdg : decode cc pc = .ok (.lload_n k, 1)) (hl0 : zz_at lo k = some (.long x)) (kk : zz_V D b0 nL p l e R s m args below meth c Q cs ss h lo (pc + 1) (.long x :: st)) : zz_V D b0 nL p l e R s m args below meth c Q cs ss h lo pc st := fun H locs la hP hS hl => lv_lload_n C.1 C.2.1 hdg rfl (zz_get_at hl hl0) (kk H locs la hP hS hl)
theorem zz_lload (C : zz_C D b0 y cc nL ret p s m args meth c) {i : Nat} {x : Int64} (hdg : decode cc pc = .ok (.lload i, 2)) (hl0 : zz_at lo i = some (.long x)) (kk : zz_V D b0 nL p l e R s m args below meth c Q cs ss h lo (pc + 2) (.long x :: st)) : zz_V D b0 nL p l e R s m args below meth c Q cs ss h lo pc st := fun H locs la hP hS hl => lv_lload C.1 C.2.1 hdg (zz_get_at hl hl0) (kk H locs la hP hS hl)
theorem zz_lstore_n (C : zz_C D b0 y cc nL ret p s m args meth c) {k : Fin 4} {x : Int64} (hdg : decode cc pc = .ok (.lstore_n k, 1)) (hn : (k : Nat) + 1 < nL) (kk : zz_V D b0 nL p l e R s m args below meth c Q cs ss h (zz_set2 lo k (.long x)) (pc + 1) st) : zz_V D b0 nL p l e R s m args below meth c Q cs ss h lo pc (.long x :: st) := fun H locs la hP hS hl => lv_lstore_n C.1 C.2.1 hdg rfl hl hn rfl (fun la1 hl1 => kk H locs la1 hP hS (zz_has hl1 (fun _ hx => zz_set2_mem hx)))
theorem zz_lstore (C : zz_C D b0 y cc nL ret p s m args meth c) {i : Nat} {x : Int64} (hdg : decode cc pc = .ok (.lstore i, 2)) (hn : i + 1 < nL) (kk : zz_V D b0 nL p l e R s m args below meth c Q cs ss h (zz_set2 lo i (.long x)) (pc + 2) st) : zz_V D b0 nL p l e R s m args below meth c Q cs ss h lo pc (.long x :: st) := fun H locs la hP hS hl => lv_lstore C.1 C.2.1 hdg hl hn rfl (fun la1 hl1 => kk H locs la1 hP hS (zz_has hl1 (fun _ hx => zz_set2_mem hx)))
theorem zz_fload_n (C : zz_C D b0 y cc nL ret p s m args meth c) {k : Fin 4} {x : UInt32} (hdg : decode cc pc = .ok (.fload_n k, 1)) (hl0 : zz_at lo k = some (.float x)) (kk : zz_V D b0 nL p l e R s m args below meth c Q cs ss h lo (pc + 1) (.float x :: st)) : zz_V D b0 nL p l e R s m args below meth c Q cs ss h lo pc st := fun H locs la hP hS hl => lv_fload_n C.1 C.2.1 hdg rfl (zz_get_at hl hl0) (kk H locs la hP hS hl)
theorem zz_fload (C : zz_C D b0 y cc nL ret p s m args meth c) {i : Nat} {x : UInt32} (hdg : decode cc pc = .ok (.fload i, 2)) (hl0 : zz_at lo i = some (.float x)) (kk : zz_V D b0 nL p l e R s m args below meth c Q cs ss h lo (pc + 2) (.float x :: st)) : zz_V D b0 nL p l e R s m args below meth c Q cs ss h lo pc st := fun H locs la hP hS hl => lv_fload C.1 C.2.1 hdg (zz_get_at hl hl0) (kk H locs la hP hS hl)
theorem zz_fstore_n (C : zz_C D b0 y cc nL ret p s m args meth c) {k : Fin 4} {x : UInt32} (hdg : decode cc pc = .ok (.fstore_n k, 1)) (hn : (k : Nat) < nL) (kk : zz_V D b0 nL p l e R s m args below meth c Q cs ss h (zz_set lo k (.float x)) (pc + 1) st) : zz_V D b0 nL p l e R s m args below meth c Q cs ss h lo pc (.float x :: st) := fun H locs la hP hS hl => lv_fstore_n C.1 C.2.1 hdg rfl hl hn rfl (fun la1 hl1 => kk H locs la1 hP hS (zz_has hl1 (fun _ hx => zz_set_mem hx)))
theorem zz_fstore (C : zz_C D b0 y cc nL ret p s m args meth c) {i : Nat} {x : UInt32} (hdg : decode cc pc = .ok (.fstore i, 2)) (hn : i < nL) (kk : zz_V D b0 nL p l e R s m args below meth c Q cs ss h (zz_set lo i (.float x)) (pc + 2) st) : zz_V D b0 nL p l e R s m args below meth c Q cs ss h lo pc (.float x :: st) := fun H locs la hP hS hl => lv_fstore C.1 C.2.1 hdg hl hn rfl (fun la1 hl1 => kk H locs la1 hP hS (zz_has hl1 (fun _ hx => zz_set_mem hx)))
theorem zz_dload_n (C : zz_C D b0 y cc nL ret p s m args meth c) {k : Fin 4} {x : UInt64} (hdg : decode cc pc = .ok (.dload_n k, 1)) (hl0 : zz_at lo k = some (.double x)) (kk : zz_V D b0 nL p l e R s m args below meth c Q cs ss h lo (pc + 1) (.double x :: st)) : zz_V D b0 nL p l e R s m args below meth c Q cs ss h lo pc st := fun H locs la hP hS hl => lv_dload_n C.1 C.2.1 hdg rfl (zz_get_at hl hl0) (kk H locs la hP hS hl)
theorem zz_dload (C : zz_C D b0 y cc nL ret p s m args meth c) {i : Nat} {x : UInt64} (hdg : decode cc pc = .ok (.dload i, 2)) (hl0 : zz_at lo i = some (.double x)) (kk : zz_V D b0 nL p l e R s m args below meth c Q cs ss h lo (pc + 2) (.double x :: st)) : zz_V D b0 nL p l e R s m args below meth c Q cs ss h lo pc st := fun H locs la hP hS hl => lv_dload C.1 C.2.1 hdg (zz_get_at hl hl0) (kk H locs la hP hS hl)
theorem zz_dstore_n (C : zz_C D b0 y cc nL ret p s m args meth c) {k : Fin 4} {x : UInt64} (hdg : decode cc pc = .ok (.dstore_n k, 1)) (hn : (k : Nat) + 1 < nL) (kk : zz_V D b0 nL p l e R s m args below meth c Q cs ss h (zz_set2 lo k (.double x)) (pc + 1) st) : zz_V D b0 nL p l e R s m args below meth c Q cs ss h lo pc (.double x :: st) := fun H locs la hP hS hl => lv_dstore_n C.1 C.2.1 hdg rfl hl hn rfl (fun la1 hl1 => kk H locs la1 hP hS (zz_has hl1 (fun _ hx => zz_set2_mem hx)))
theorem zz_dstore (C : zz_C D b0 y cc nL ret p s m args meth c) {i : Nat} {x : UInt64} (hdg : decode cc pc = .ok (.dstore i, 2)) (hn : i + 1 < nL) (kk : zz_V D b0 nL p l e R s m args below meth c Q cs ss h (zz_set2 lo i (.double x)) (pc + 2) st) : zz_V D b0 nL p l e R s m args below meth c Q cs ss h lo pc (.double x :: st) := fun H locs la hP hS hl => lv_dstore C.1 C.2.1 hdg hl hn rfl (fun la1 hl1 => kk H locs la1 hP hS (zz_has hl1 (fun _ hx => zz_set2_mem hx)))
theorem zz_aload_nN (C : zz_C D b0 y cc nL ret p s m args meth c) {k : Fin 4} (hdg : decode cc pc = .ok (.aload_n k, 1)) (hl0 : zz_at lo k = some .null) (kk : zz_V D b0 nL p l e R s m args below meth c Q cs ss h lo (pc + 1) (.null :: st)) : zz_V D b0 nL p l e R s m args below meth c Q cs ss h lo pc st := fun H locs la hP hS hl => lv_aload_nN C.1 C.2.1 hdg rfl (zz_get_at hl hl0) (kk H locs la hP hS hl)
theorem zz_aloadN (C : zz_C D b0 y cc nL ret p s m args meth c) {i : Nat} (hdg : decode cc pc = .ok (.aload i, 2)) (hl0 : zz_at lo i = some .null) (kk : zz_V D b0 nL p l e R s m args below meth c Q cs ss h lo (pc + 2) (.null :: st)) : zz_V D b0 nL p l e R s m args below meth c Q cs ss h lo pc st := fun H locs la hP hS hl => lv_aloadN C.1 C.2.1 hdg (zz_get_at hl hl0) (kk H locs la hP hS hl)
theorem zz_iinc (C : zz_C D b0 y cc nL ret p s m args meth c) {i : Nat} {n : Int} {x v : Int32} (hdg : decode cc pc = .ok (.iinc i n, 3)) (hl0 : zz_at lo i = some (.int x)) (hv : x + Int32.ofInt n = v) (hn : i < nL) (kk : zz_V D b0 nL p l e R s m args below meth c Q cs ss h (zz_set lo i (.int v)) (pc + 3) st) : zz_V D b0 nL p l e R s m args below meth c Q cs ss h lo pc st := fun H locs la hP hS hl => by
  obtain ⟨k, hk⟩ := List.getElem?_of_mem (zz_at_mem hl0)
  exact lv_iinc C.1 C.2.1 hdg hl hk hv hn rfl (fun la1 hl1 => kk H locs la1 hP hS (zz_has hl1 (fun _ hx => zz_set_mem hx)))
theorem zz_iadd (C : zz_C D b0 y cc nL ret p s m args meth c) {x z : Int32} (hdg : decode cc pc = .ok (.iadd, 1)) (k : zz_V D b0 nL p l e R s m args below meth c Q cs ss h lo (pc + 1) (.int (x + z) :: st)) : zz_V D b0 nL p l e R s m args below meth c Q cs ss h lo pc (.int z :: .int x :: st) := fun H locs la hP hS hl => lv_iadd C.1 C.2.1 hdg (k H locs la hP hS hl)
theorem zz_isub (C : zz_C D b0 y cc nL ret p s m args meth c) {x z : Int32} (hdg : decode cc pc = .ok (.isub, 1)) (k : zz_V D b0 nL p l e R s m args below meth c Q cs ss h lo (pc + 1) (.int (x - z) :: st)) : zz_V D b0 nL p l e R s m args below meth c Q cs ss h lo pc (.int z :: .int x :: st) := fun H locs la hP hS hl => lv_isub C.1 C.2.1 hdg (k H locs la hP hS hl)
theorem zz_imul (C : zz_C D b0 y cc nL ret p s m args meth c) {x z : Int32} (hdg : decode cc pc = .ok (.imul, 1)) (k : zz_V D b0 nL p l e R s m args below meth c Q cs ss h lo (pc + 1) (.int (x * z) :: st)) : zz_V D b0 nL p l e R s m args below meth c Q cs ss h lo pc (.int z :: .int x :: st) := fun H locs la hP hS hl => lv_imul C.1 C.2.1 hdg (k H locs la hP hS hl)
theorem zz_iand (C : zz_C D b0 y cc nL ret p s m args meth c) {x z : Int32} (hdg : decode cc pc = .ok (.iand, 1)) (k : zz_V D b0 nL p l e R s m args below meth c Q cs ss h lo (pc + 1) (.int (x &&& z) :: st)) : zz_V D b0 nL p l e R s m args below meth c Q cs ss h lo pc (.int z :: .int x :: st) := fun H locs la hP hS hl => lv_iand C.1 C.2.1 hdg (k H locs la hP hS hl)
theorem zz_ior (C : zz_C D b0 y cc nL ret p s m args meth c) {x z : Int32} (hdg : decode cc pc = .ok (.ior, 1)) (k : zz_V D b0 nL p l e R s m args below meth c Q cs ss h lo (pc + 1) (.int (x ||| z) :: st)) : zz_V D b0 nL p l e R s m args below meth c Q cs ss h lo pc (.int z :: .int x :: st) := fun H locs la hP hS hl => lv_ior C.1 C.2.1 hdg (k H locs la hP hS hl)
theorem zz_ishl (C : zz_C D b0 y cc nL ret p s m args meth c) {x z : Int32} (hdg : decode cc pc = .ok (.ishl, 1)) (k : zz_V D b0 nL p l e R s m args below meth c Q cs ss h lo (pc + 1) (.int (x <<< (z &&& 31)) :: st)) : zz_V D b0 nL p l e R s m args below meth c Q cs ss h lo pc (.int z :: .int x :: st) := fun H locs la hP hS hl => lv_ishl C.1 C.2.1 hdg (k H locs la hP hS hl)
theorem zz_ishr (C : zz_C D b0 y cc nL ret p s m args meth c) {x z : Int32} (hdg : decode cc pc = .ok (.ishr, 1)) (k : zz_V D b0 nL p l e R s m args below meth c Q cs ss h lo (pc + 1) (.int (x >>> (z &&& 31)) :: st)) : zz_V D b0 nL p l e R s m args below meth c Q cs ss h lo pc (.int z :: .int x :: st) := fun H locs la hP hS hl => lv_ishr C.1 C.2.1 hdg (k H locs la hP hS hl)
theorem zz_iushr (C : zz_C D b0 y cc nL ret p s m args meth c) {x z : Int32} (hdg : decode cc pc = .ok (.iushr, 1)) (k : zz_V D b0 nL p l e R s m args below meth c Q cs ss h lo (pc + 1) (.int (x.toUInt32 >>> (z.toUInt32 &&& Int32.toUInt32 31)).toInt32 :: st)) : zz_V D b0 nL p l e R s m args below meth c Q cs ss h lo pc (.int z :: .int x :: st) := fun H locs la hP hS hl => lv_iushr C.1 C.2.1 hdg rfl (k H locs la hP hS hl)
theorem zz_idiv (C : zz_C D b0 y cc nL ret p s m args meth c) {x z : Int32} (hdg : decode cc pc = .ok (.idiv, 1)) (hne : ¬ z = 0) (k : zz_V D b0 nL p l e R s m args below meth c Q cs ss h lo (pc + 1) (.int (x / z) :: st)) : zz_V D b0 nL p l e R s m args below meth c Q cs ss h lo pc (.int z :: .int x :: st) := fun H locs la hP hS hl => lv_idiv C.1 C.2.1 hdg hne (k H locs la hP hS hl)
theorem zz_irem (C : zz_C D b0 y cc nL ret p s m args meth c) {x z : Int32} (hdg : decode cc pc = .ok (.irem, 1)) (hne : ¬ z = 0) (k : zz_V D b0 nL p l e R s m args below meth c Q cs ss h lo (pc + 1) (.int (x - x / z * z) :: st)) : zz_V D b0 nL p l e R s m args below meth c Q cs ss h lo pc (.int z :: .int x :: st) := fun H locs la hP hS hl => lv_irem C.1 C.2.1 hdg hne (k H locs la hP hS hl)
theorem zz_ineg (C : zz_C D b0 y cc nL ret p s m args meth c) {x : Int32} (hdg : decode cc pc = .ok (.ineg, 1)) (k : zz_V D b0 nL p l e R s m args below meth c Q cs ss h lo (pc + 1) (.int (-x) :: st)) : zz_V D b0 nL p l e R s m args below meth c Q cs ss h lo pc (.int x :: st) := fun H locs la hP hS hl => lv_ineg C.1 C.2.1 hdg (k H locs la hP hS hl)
theorem zz_ladd (C : zz_C D b0 y cc nL ret p s m args meth c) {x z : Int64} (hdg : decode cc pc = .ok (.ladd, 1)) (k : zz_V D b0 nL p l e R s m args below meth c Q cs ss h lo (pc + 1) (.long (x + z) :: st)) : zz_V D b0 nL p l e R s m args below meth c Q cs ss h lo pc (.long z :: .long x :: st) := fun H locs la hP hS hl => lv_ladd C.1 C.2.1 hdg (k H locs la hP hS hl)
theorem zz_lsub (C : zz_C D b0 y cc nL ret p s m args meth c) {x z : Int64} (hdg : decode cc pc = .ok (.lsub, 1)) (k : zz_V D b0 nL p l e R s m args below meth c Q cs ss h lo (pc + 1) (.long (x - z) :: st)) : zz_V D b0 nL p l e R s m args below meth c Q cs ss h lo pc (.long z :: .long x :: st) := fun H locs la hP hS hl => lv_lsub C.1 C.2.1 hdg (k H locs la hP hS hl)
theorem zz_lmul (C : zz_C D b0 y cc nL ret p s m args meth c) {x z : Int64} (hdg : decode cc pc = .ok (.lmul, 1)) (k : zz_V D b0 nL p l e R s m args below meth c Q cs ss h lo (pc + 1) (.long (x * z) :: st)) : zz_V D b0 nL p l e R s m args below meth c Q cs ss h lo pc (.long z :: .long x :: st) := fun H locs la hP hS hl => lv_lmul C.1 C.2.1 hdg (k H locs la hP hS hl)
theorem zz_land (C : zz_C D b0 y cc nL ret p s m args meth c) {x z : Int64} (hdg : decode cc pc = .ok (.land, 1)) (k : zz_V D b0 nL p l e R s m args below meth c Q cs ss h lo (pc + 1) (.long (x &&& z) :: st)) : zz_V D b0 nL p l e R s m args below meth c Q cs ss h lo pc (.long z :: .long x :: st) := fun H locs la hP hS hl => lv_land C.1 C.2.1 hdg (k H locs la hP hS hl)
theorem zz_lor (C : zz_C D b0 y cc nL ret p s m args meth c) {x z : Int64} (hdg : decode cc pc = .ok (.lor, 1)) (k : zz_V D b0 nL p l e R s m args below meth c Q cs ss h lo (pc + 1) (.long (x ||| z) :: st)) : zz_V D b0 nL p l e R s m args below meth c Q cs ss h lo pc (.long z :: .long x :: st) := fun H locs la hP hS hl => lv_lor C.1 C.2.1 hdg (k H locs la hP hS hl)
theorem zz_lushr (C : zz_C D b0 y cc nL ret p s m args meth c) {x : Int64} {z : Int32} (hdg : decode cc pc = .ok (.lushr, 1)) (k : zz_V D b0 nL p l e R s m args below meth c Q cs ss h lo (pc + 1) (.long ((x.toUInt64 >>> (z.toInt64.toUInt64 &&& Int64.toUInt64 63)).toInt64) :: st)) : zz_V D b0 nL p l e R s m args below meth c Q cs ss h lo pc (.int z :: .long x :: st) := fun H locs la hP hS hl => lv_lushr C.1 C.2.1 hdg rfl (k H locs la hP hS hl)
theorem zz_lshl (C : zz_C D b0 y cc nL ret p s m args meth c) {x : Int64} {z : Int32} (hdg : decode cc pc = .ok (.lshl, 1)) (k : zz_V D b0 nL p l e R s m args below meth c Q cs ss h lo (pc + 1) (.long (x <<< (z.toInt64 &&& 63)) :: st)) : zz_V D b0 nL p l e R s m args below meth c Q cs ss h lo pc (.int z :: .long x :: st) := fun H locs la hP hS hl => lv_lshl C.1 C.2.1 hdg rfl (k H locs la hP hS hl)
theorem zz_lshr (C : zz_C D b0 y cc nL ret p s m args meth c) {x : Int64} {z : Int32} (hdg : decode cc pc = .ok (.lshr, 1)) (k : zz_V D b0 nL p l e R s m args below meth c Q cs ss h lo (pc + 1) (.long (x >>> (z.toInt64 &&& 63)) :: st)) : zz_V D b0 nL p l e R s m args below meth c Q cs ss h lo pc (.int z :: .long x :: st) := fun H locs la hP hS hl => lv_lshr C.1 C.2.1 hdg rfl (k H locs la hP hS hl)
theorem zz_lcmp (C : zz_C D b0 y cc nL ret p s m args meth c) {x z : Int64} (hdg : decode cc pc = .ok (.lcmp, 1)) (k : zz_V D b0 nL p l e R s m args below meth c Q cs ss h lo (pc + 1) (.int (lg_cmp x z) :: st)) : zz_V D b0 nL p l e R s m args below meth c Q cs ss h lo pc (.long z :: .long x :: st) := fun H locs la hP hS hl => W.lcmp C.1 C.2.1 hdg (k H locs la hP hS hl)
theorem zz_l2i (C : zz_C D b0 y cc nL ret p s m args meth c) {x : Int64} (hdg : decode cc pc = .ok (.l2i, 1)) (k : zz_V D b0 nL p l e R s m args below meth c Q cs ss h lo (pc + 1) (.int x.toInt32 :: st)) : zz_V D b0 nL p l e R s m args below meth c Q cs ss h lo pc (.long x :: st) := fun H locs la hP hS hl => lv_l2i C.1 C.2.1 hdg rfl (k H locs la hP hS hl)
theorem zz_i2l (C : zz_C D b0 y cc nL ret p s m args meth c) {x : Int32} (hdg : decode cc pc = .ok (.i2l, 1)) (k : zz_V D b0 nL p l e R s m args below meth c Q cs ss h lo (pc + 1) (.long x.toInt64 :: st)) : zz_V D b0 nL p l e R s m args below meth c Q cs ss h lo pc (.int x :: st) := fun H locs la hP hS hl => lv_i2l C.1 C.2.1 hdg rfl (k H locs la hP hS hl)
theorem zz_i2c (C : zz_C D b0 y cc nL ret p s m args meth c) {x : Int32} (hdg : decode cc pc = .ok (.i2c, 1)) (k : zz_V D b0 nL p l e R s m args below meth c Q cs ss h lo (pc + 1) (.int (x.toUInt32 % 65536).toInt32 :: st)) : zz_V D b0 nL p l e R s m args below meth c Q cs ss h lo pc (.int x :: st) := fun H locs la hP hS hl => lv_i2c C.1 C.2.1 hdg rfl (k H locs la hP hS hl)
theorem zz_i2b (C : zz_C D b0 y cc nL ret p s m args meth c) {x : Int32} (hdg : decode cc pc = .ok (.i2b, 1)) (k : zz_V D b0 nL p l e R s m args below meth c Q cs ss h lo (pc + 1) (.int x.toInt8.toInt32 :: st)) : zz_V D b0 nL p l e R s m args below meth c Q cs ss h lo pc (.int x :: st) := fun H locs la hP hS hl => lv_i2b C.1 C.2.1 hdg rfl (k H locs la hP hS hl)
theorem zz_fadd (C : zz_C D b0 y cc nL ret p s m args meth c) {x z : UInt32} (hdg : decode cc pc = .ok (.fadd, 1)) (hne : vf_n32 (FP.fadd x z)) (k : zz_V D b0 nL p l e R s m args below meth c Q cs ss h lo (pc + 1) (.float (FP.fadd x z) :: st)) : zz_V D b0 nL p l e R s m args below meth c Q cs ss h lo pc (.float z :: .float x :: st) := fun H locs la hP hS hl => lv_fadd C.1 C.2.1 hdg hne (k H locs la hP hS hl)
theorem zz_fsub (C : zz_C D b0 y cc nL ret p s m args meth c) {x z : UInt32} (hdg : decode cc pc = .ok (.fsub, 1)) (hne : vf_n32 (FP.fsub x z)) (k : zz_V D b0 nL p l e R s m args below meth c Q cs ss h lo (pc + 1) (.float (FP.fsub x z) :: st)) : zz_V D b0 nL p l e R s m args below meth c Q cs ss h lo pc (.float z :: .float x :: st) := fun H locs la hP hS hl => lv_fsub C.1 C.2.1 hdg hne (k H locs la hP hS hl)
theorem zz_fmul (C : zz_C D b0 y cc nL ret p s m args meth c) {x z : UInt32} (hdg : decode cc pc = .ok (.fmul, 1)) (hne : vf_n32 (FP.fmul x z)) (k : zz_V D b0 nL p l e R s m args below meth c Q cs ss h lo (pc + 1) (.float (FP.fmul x z) :: st)) : zz_V D b0 nL p l e R s m args below meth c Q cs ss h lo pc (.float z :: .float x :: st) := fun H locs la hP hS hl => lv_fmul C.1 C.2.1 hdg hne (k H locs la hP hS hl)
theorem zz_fdiv (C : zz_C D b0 y cc nL ret p s m args meth c) {x z : UInt32} (hdg : decode cc pc = .ok (.fdiv, 1)) (hne : vf_n32 (FP.fdiv x z)) (k : zz_V D b0 nL p l e R s m args below meth c Q cs ss h lo (pc + 1) (.float (FP.fdiv x z) :: st)) : zz_V D b0 nL p l e R s m args below meth c Q cs ss h lo pc (.float z :: .float x :: st) := fun H locs la hP hS hl => lv_fdiv C.1 C.2.1 hdg hne (k H locs la hP hS hl)
theorem zz_dadd (C : zz_C D b0 y cc nL ret p s m args meth c) {x z : UInt64} (hdg : decode cc pc = .ok (.dadd, 1)) (hne : vf_n64 (FP.dadd x z)) (k : zz_V D b0 nL p l e R s m args below meth c Q cs ss h lo (pc + 1) (.double (FP.dadd x z) :: st)) : zz_V D b0 nL p l e R s m args below meth c Q cs ss h lo pc (.double z :: .double x :: st) := fun H locs la hP hS hl => lv_dadd C.1 C.2.1 hdg hne (k H locs la hP hS hl)
theorem zz_dsub (C : zz_C D b0 y cc nL ret p s m args meth c) {x z : UInt64} (hdg : decode cc pc = .ok (.dsub, 1)) (hne : vf_n64 (FP.dsub x z)) (k : zz_V D b0 nL p l e R s m args below meth c Q cs ss h lo (pc + 1) (.double (FP.dsub x z) :: st)) : zz_V D b0 nL p l e R s m args below meth c Q cs ss h lo pc (.double z :: .double x :: st) := fun H locs la hP hS hl => lv_dsub C.1 C.2.1 hdg hne (k H locs la hP hS hl)
theorem zz_dmul (C : zz_C D b0 y cc nL ret p s m args meth c) {x z : UInt64} (hdg : decode cc pc = .ok (.dmul, 1)) (hne : vf_n64 (FP.dmul x z)) (k : zz_V D b0 nL p l e R s m args below meth c Q cs ss h lo (pc + 1) (.double (FP.dmul x z) :: st)) : zz_V D b0 nL p l e R s m args below meth c Q cs ss h lo pc (.double z :: .double x :: st) := fun H locs la hP hS hl => lv_dmul C.1 C.2.1 hdg hne (k H locs la hP hS hl)
theorem zz_ddiv (C : zz_C D b0 y cc nL ret p s m args meth c) {x z : UInt64} (hdg : decode cc pc = .ok (.ddiv, 1)) (hne : vf_n64 (FP.ddiv x z)) (k : zz_V D b0 nL p l e R s m args below meth c Q cs ss h lo (pc + 1) (.double (FP.ddiv x z) :: st)) : zz_V D b0 nL p l e R s m args below meth c Q cs ss h lo pc (.double z :: .double x :: st) := fun H locs la hP hS hl => lv_ddiv C.1 C.2.1 hdg hne (k H locs la hP hS hl)
theorem zz_fcmp (C : zz_C D b0 y cc nL ret p s m args meth c) {x z : UInt32} {op : CmpOp} (hdg : decode cc pc = .ok (.fcmp op, 1)) (k : zz_V D b0 nL p l e R s m args below meth c Q cs ss h lo (pc + 1) (.int (Op.cmpValue (FP.fcmp x z) op) :: st)) : zz_V D b0 nL p l e R s m args below meth c Q cs ss h lo pc (.float z :: .float x :: st) := fun H locs la hP hS hl => lv_fcmp C.1 C.2.1 hdg (k H locs la hP hS hl)
theorem zz_dcmp (C : zz_C D b0 y cc nL ret p s m args meth c) {x z : UInt64} {op : CmpOp} (hdg : decode cc pc = .ok (.dcmp op, 1)) (k : zz_V D b0 nL p l e R s m args below meth c Q cs ss h lo (pc + 1) (.int (Op.cmpValue (FP.dcmp x z) op) :: st)) : zz_V D b0 nL p l e R s m args below meth c Q cs ss h lo pc (.double z :: .double x :: st) := fun H locs la hP hS hl => lv_dcmp C.1 C.2.1 hdg (k H locs la hP hS hl)
theorem zz_i2f (C : zz_C D b0 y cc nL ret p s m args meth c) {x : Int32} (hdg : decode cc pc = .ok (.i2f, 1)) (k : zz_V D b0 nL p l e R s m args below meth c Q cs ss h lo (pc + 1) (.float (FP.i2f x) :: st)) : zz_V D b0 nL p l e R s m args below meth c Q cs ss h lo pc (.int x :: st) := fun H locs la hP hS hl => lv_i2f C.1 C.2.1 hdg (k H locs la hP hS hl)
theorem zz_i2d (C : zz_C D b0 y cc nL ret p s m args meth c) {x : Int32} (hdg : decode cc pc = .ok (.i2d, 1)) (k : zz_V D b0 nL p l e R s m args below meth c Q cs ss h lo (pc + 1) (.double (FP.i2d x) :: st)) : zz_V D b0 nL p l e R s m args below meth c Q cs ss h lo pc (.int x :: st) := fun H locs la hP hS hl => lv_i2d C.1 C.2.1 hdg (k H locs la hP hS hl)
theorem zz_f2i (C : zz_C D b0 y cc nL ret p s m args meth c) {x : UInt32} (hdg : decode cc pc = .ok (.f2i, 1)) (k : zz_V D b0 nL p l e R s m args below meth c Q cs ss h lo (pc + 1) (.int (FP.f2i x) :: st)) : zz_V D b0 nL p l e R s m args below meth c Q cs ss h lo pc (.float x :: st) := fun H locs la hP hS hl => lv_f2i C.1 C.2.1 hdg (k H locs la hP hS hl)
theorem zz_d2l (C : zz_C D b0 y cc nL ret p s m args meth c) {x : UInt64} (hdg : decode cc pc = .ok (.d2l, 1)) (k : zz_V D b0 nL p l e R s m args below meth c Q cs ss h lo (pc + 1) (.long (FP.d2l x) :: st)) : zz_V D b0 nL p l e R s m args below meth c Q cs ss h lo pc (.double x :: st) := fun H locs la hP hS hl => lv_d2l C.1 C.2.1 hdg (k H locs la hP hS hl)
theorem zz_pop (C : zz_C D b0 y cc nL ret p s m args meth c) {va : Value} (hdg : decode cc pc = .ok (.pop, 1)) (hva : va.category = 1) (k : zz_V D b0 nL p l e R s m args below meth c Q cs ss h lo (pc + 1) st) : zz_V D b0 nL p l e R s m args below meth c Q cs ss h lo pc (va :: st) := fun H locs la hP hS hl => lv_pop C.1 C.2.1 hdg hva (k H locs la hP hS hl)
theorem zz_dup (C : zz_C D b0 y cc nL ret p s m args meth c) {va : Value} (hdg : decode cc pc = .ok (.dup, 1)) (hva : va.category = 1) (k : zz_V D b0 nL p l e R s m args below meth c Q cs ss h lo (pc + 1) (va :: va :: st)) : zz_V D b0 nL p l e R s m args below meth c Q cs ss h lo pc (va :: st) := fun H locs la hP hS hl => lv_dup C.1 C.2.1 hdg hva (k H locs la hP hS hl)
theorem zz_dup_x1 (C : zz_C D b0 y cc nL ret p s m args meth c) {va vb : Value} (hdg : decode cc pc = .ok (.dup_x1, 1)) (hva : va.category = 1) (hvb : vb.category = 1) (k : zz_V D b0 nL p l e R s m args below meth c Q cs ss h lo (pc + 1) (va :: vb :: va :: st)) : zz_V D b0 nL p l e R s m args below meth c Q cs ss h lo pc (va :: vb :: st) := fun H locs la hP hS hl => lv_dup_x1 C.1 C.2.1 hdg hva hvb (k H locs la hP hS hl)
theorem zz_dup2 (C : zz_C D b0 y cc nL ret p s m args meth c) {va vb : Value} (hdg : decode cc pc = .ok (.dup2, 1)) (hva : va.category = 1) (hvb : vb.category = 1) (k : zz_V D b0 nL p l e R s m args below meth c Q cs ss h lo (pc + 1) (va :: vb :: va :: vb :: st)) : zz_V D b0 nL p l e R s m args below meth c Q cs ss h lo pc (va :: vb :: st) := fun H locs la hP hS hl => lv_dup2_11 C.1 C.2.1 hdg hva hvb (k H locs la hP hS hl)
theorem zz_null (C : zz_C D b0 y cc nL ret p s m args meth c) (hdg : decode cc pc = .ok (.aconst_null, 1)) (k : zz_V D b0 nL p l e R s m args below meth c Q cs ss h lo (pc + 1) (.null :: st)) : zz_V D b0 nL p l e R s m args below meth c Q cs ss h lo pc st := fun H locs la hP hS hl => lv_null C.1 C.2.1 hdg (k H locs la hP hS hl)
theorem zz_ldc (C : zz_C D b0 y cc nL ret p s m args meth c) {own : String} {index : Nat} {v : Int32} (ho : y.cls = own) (hc : Jvm.Cond.constant own index v ∈ lw_all) (hdg : decode cc pc = .ok (.ldc index, 2)) (k : zz_V D b0 nL p l e R s m args below meth c Q cs ss h lo (pc + 2) (.int v :: st)) : zz_V D b0 nL p l e R s m args below meth c Q cs ss h lo pc st := fun H locs la hP hS hl => lv_ldc C.1 C.2.1 (by rw [← ho]; exact C.2.2.2.1) (C.2.2.2.2.1 _ hc) hdg (k H locs la hP hS hl)
theorem zz_ldc2 (C : zz_C D b0 y cc nL ret p s m args meth c) {own : String} {index : Nat} {v : Int64} (ho : y.cls = own) (hc : Jvm.Cond.constantLong own index v ∈ lw_all) (hdg : decode cc pc = .ok (.ldc2_w index, 3)) (k : zz_V D b0 nL p l e R s m args below meth c Q cs ss h lo (pc + 3) (.long v :: st)) : zz_V D b0 nL p l e R s m args below meth c Q cs ss h lo pc st := fun H locs la hP hS hl => lv_ldc2 C.1 C.2.1 (by rw [← ho]; exact C.2.2.2.1) (C.2.2.2.2.1 _ hc) hdg (k H locs la hP hS hl)
theorem zz_goto (C : zz_C D b0 y cc nL ret p s m args meth c) {off : Int} {tgt : Nat} (hdg : decode cc pc = .ok (.goto off, 3)) (ht : (pc : Int) + off = (tgt : Int)) (k : zz_V D b0 nL p l e R s m args below meth c Q cs ss h lo tgt st) : zz_V D b0 nL p l e R s m args below meth c Q cs ss h lo pc st := fun H locs la hP hS hl => lv_goto C.1 C.2.1 hdg ht (k H locs la hP hS hl)
theorem zz_icmp_eq (C : zz_C D b0 y cc nL ret p s m args meth c) {x z : Int32} {off : Int} {tgt : Nat} (hdg : decode cc pc = .ok (.if_icmp .eq off, 3)) (ht : (pc : Int) + off = (tgt : Int)) (kt : x = z → zz_V D b0 nL p l e R s m args below meth c Q cs ss h lo tgt st) (kf : ¬ x = z → zz_V D b0 nL p l e R s m args below meth c Q cs ss h lo (pc + 3) st) : zz_V D b0 nL p l e R s m args below meth c Q cs ss h lo pc (.int z :: .int x :: st) := fun H locs la hP hS hl => lv_icmp_eq C.1 C.2.1 hdg ht (fun q => kt q H locs la hP hS hl) (fun q => kf q H locs la hP hS hl)
theorem zz_icmp_ne (C : zz_C D b0 y cc nL ret p s m args meth c) {x z : Int32} {off : Int} {tgt : Nat} (hdg : decode cc pc = .ok (.if_icmp .ne off, 3)) (ht : (pc : Int) + off = (tgt : Int)) (kt : ¬ x = z → zz_V D b0 nL p l e R s m args below meth c Q cs ss h lo tgt st) (kf : x = z → zz_V D b0 nL p l e R s m args below meth c Q cs ss h lo (pc + 3) st) : zz_V D b0 nL p l e R s m args below meth c Q cs ss h lo pc (.int z :: .int x :: st) := fun H locs la hP hS hl => lv_icmp_ne C.1 C.2.1 hdg ht (fun q => kt q H locs la hP hS hl) (fun q => kf q H locs la hP hS hl)
theorem zz_icmp_lt (C : zz_C D b0 y cc nL ret p s m args meth c) {x z : Int32} {off : Int} {tgt : Nat} (hdg : decode cc pc = .ok (.if_icmp .lt off, 3)) (ht : (pc : Int) + off = (tgt : Int)) (kt : x < z → zz_V D b0 nL p l e R s m args below meth c Q cs ss h lo tgt st) (kf : ¬ x < z → zz_V D b0 nL p l e R s m args below meth c Q cs ss h lo (pc + 3) st) : zz_V D b0 nL p l e R s m args below meth c Q cs ss h lo pc (.int z :: .int x :: st) := fun H locs la hP hS hl => lv_icmp_lt C.1 C.2.1 hdg ht (fun q => kt q H locs la hP hS hl) (fun q => kf q H locs la hP hS hl)
theorem zz_icmp_ge (C : zz_C D b0 y cc nL ret p s m args meth c) {x z : Int32} {off : Int} {tgt : Nat} (hdg : decode cc pc = .ok (.if_icmp .ge off, 3)) (ht : (pc : Int) + off = (tgt : Int)) (kt : z ≤ x → zz_V D b0 nL p l e R s m args below meth c Q cs ss h lo tgt st) (kf : ¬ z ≤ x → zz_V D b0 nL p l e R s m args below meth c Q cs ss h lo (pc + 3) st) : zz_V D b0 nL p l e R s m args below meth c Q cs ss h lo pc (.int z :: .int x :: st) := fun H locs la hP hS hl => lv_icmp_ge C.1 C.2.1 hdg ht (fun q => kt q H locs la hP hS hl) (fun q => kf q H locs la hP hS hl)
theorem zz_icmp_gt (C : zz_C D b0 y cc nL ret p s m args meth c) {x z : Int32} {off : Int} {tgt : Nat} (hdg : decode cc pc = .ok (.if_icmp .gt off, 3)) (ht : (pc : Int) + off = (tgt : Int)) (kt : z < x → zz_V D b0 nL p l e R s m args below meth c Q cs ss h lo tgt st) (kf : ¬ z < x → zz_V D b0 nL p l e R s m args below meth c Q cs ss h lo (pc + 3) st) : zz_V D b0 nL p l e R s m args below meth c Q cs ss h lo pc (.int z :: .int x :: st) := fun H locs la hP hS hl => lv_icmp_gt C.1 C.2.1 hdg ht (fun q => kt q H locs la hP hS hl) (fun q => kf q H locs la hP hS hl)
theorem zz_icmp_le (C : zz_C D b0 y cc nL ret p s m args meth c) {x z : Int32} {off : Int} {tgt : Nat} (hdg : decode cc pc = .ok (.if_icmp .le off, 3)) (ht : (pc : Int) + off = (tgt : Int)) (kt : x ≤ z → zz_V D b0 nL p l e R s m args below meth c Q cs ss h lo tgt st) (kf : ¬ x ≤ z → zz_V D b0 nL p l e R s m args below meth c Q cs ss h lo (pc + 3) st) : zz_V D b0 nL p l e R s m args below meth c Q cs ss h lo pc (.int z :: .int x :: st) := fun H locs la hP hS hl => lv_icmp_le C.1 C.2.1 hdg ht (fun q => kt q H locs la hP hS hl) (fun q => kf q H locs la hP hS hl)
theorem zz_if_eq (C : zz_C D b0 y cc nL ret p s m args meth c) {x : Int32} {off : Int} {tgt : Nat} (hdg : decode cc pc = .ok (.ifCond .eq off, 3)) (ht : (pc : Int) + off = (tgt : Int)) (kt : x = 0 → zz_V D b0 nL p l e R s m args below meth c Q cs ss h lo tgt st) (kf : ¬ x = 0 → zz_V D b0 nL p l e R s m args below meth c Q cs ss h lo (pc + 3) st) : zz_V D b0 nL p l e R s m args below meth c Q cs ss h lo pc (.int x :: st) := fun H locs la hP hS hl => lv_if_eq C.1 C.2.1 hdg ht (fun q => kt q H locs la hP hS hl) (fun q => kf q H locs la hP hS hl)
theorem zz_if_ne (C : zz_C D b0 y cc nL ret p s m args meth c) {x : Int32} {off : Int} {tgt : Nat} (hdg : decode cc pc = .ok (.ifCond .ne off, 3)) (ht : (pc : Int) + off = (tgt : Int)) (kt : ¬ x = 0 → zz_V D b0 nL p l e R s m args below meth c Q cs ss h lo tgt st) (kf : x = 0 → zz_V D b0 nL p l e R s m args below meth c Q cs ss h lo (pc + 3) st) : zz_V D b0 nL p l e R s m args below meth c Q cs ss h lo pc (.int x :: st) := fun H locs la hP hS hl => lv_if_ne C.1 C.2.1 hdg ht (fun q => kt q H locs la hP hS hl) (fun q => kf q H locs la hP hS hl)
theorem zz_if_lt (C : zz_C D b0 y cc nL ret p s m args meth c) {x : Int32} {off : Int} {tgt : Nat} (hdg : decode cc pc = .ok (.ifCond .lt off, 3)) (ht : (pc : Int) + off = (tgt : Int)) (kt : x < 0 → zz_V D b0 nL p l e R s m args below meth c Q cs ss h lo tgt st) (kf : ¬ x < 0 → zz_V D b0 nL p l e R s m args below meth c Q cs ss h lo (pc + 3) st) : zz_V D b0 nL p l e R s m args below meth c Q cs ss h lo pc (.int x :: st) := fun H locs la hP hS hl => lv_if_lt C.1 C.2.1 hdg ht (fun q => kt q H locs la hP hS hl) (fun q => kf q H locs la hP hS hl)
theorem zz_if_ge (C : zz_C D b0 y cc nL ret p s m args meth c) {x : Int32} {off : Int} {tgt : Nat} (hdg : decode cc pc = .ok (.ifCond .ge off, 3)) (ht : (pc : Int) + off = (tgt : Int)) (kt : 0 ≤ x → zz_V D b0 nL p l e R s m args below meth c Q cs ss h lo tgt st) (kf : ¬ 0 ≤ x → zz_V D b0 nL p l e R s m args below meth c Q cs ss h lo (pc + 3) st) : zz_V D b0 nL p l e R s m args below meth c Q cs ss h lo pc (.int x :: st) := fun H locs la hP hS hl => lv_if_ge C.1 C.2.1 hdg ht (fun q => kt q H locs la hP hS hl) (fun q => kf q H locs la hP hS hl)
theorem zz_if_gt (C : zz_C D b0 y cc nL ret p s m args meth c) {x : Int32} {off : Int} {tgt : Nat} (hdg : decode cc pc = .ok (.ifCond .gt off, 3)) (ht : (pc : Int) + off = (tgt : Int)) (kt : 0 < x → zz_V D b0 nL p l e R s m args below meth c Q cs ss h lo tgt st) (kf : ¬ 0 < x → zz_V D b0 nL p l e R s m args below meth c Q cs ss h lo (pc + 3) st) : zz_V D b0 nL p l e R s m args below meth c Q cs ss h lo pc (.int x :: st) := fun H locs la hP hS hl => lv_if_gt C.1 C.2.1 hdg ht (fun q => kt q H locs la hP hS hl) (fun q => kf q H locs la hP hS hl)
theorem zz_if_le (C : zz_C D b0 y cc nL ret p s m args meth c) {x : Int32} {off : Int} {tgt : Nat} (hdg : decode cc pc = .ok (.ifCond .le off, 3)) (ht : (pc : Int) + off = (tgt : Int)) (kt : x ≤ 0 → zz_V D b0 nL p l e R s m args below meth c Q cs ss h lo tgt st) (kf : ¬ x ≤ 0 → zz_V D b0 nL p l e R s m args below meth c Q cs ss h lo (pc + 3) st) : zz_V D b0 nL p l e R s m args below meth c Q cs ss h lo pc (.int x :: st) := fun H locs la hP hS hl => lv_if_le C.1 C.2.1 hdg ht (fun q => kt q H locs la hP hS hl) (fun q => kf q H locs la hP hS hl)
theorem zz_ifb_eq (C : zz_C D b0 y cc nL ret p s m args meth c) {b : Bool} {off : Int} {tgt : Nat} (hdg : decode cc pc = .ok (.ifCond .eq off, 3)) (ht : (pc : Int) + off = (tgt : Int)) (kt : b = false → zz_V D b0 nL p l e R s m args below meth c Q cs ss h lo tgt st) (kf : b = true → zz_V D b0 nL p l e R s m args below meth c Q cs ss h lo (pc + 3) st) : zz_V D b0 nL p l e R s m args below meth c Q cs ss h lo pc (.int (zz_b b) :: st) := zz_if_eq C hdg ht (fun q => kt (zz_b0.mp q)) (fun q => kf (by cases b; exact absurd rfl q; rfl))
theorem zz_ifb_ne (C : zz_C D b0 y cc nL ret p s m args meth c) {b : Bool} {off : Int} {tgt : Nat} (hdg : decode cc pc = .ok (.ifCond .ne off, 3)) (ht : (pc : Int) + off = (tgt : Int)) (kt : b = true → zz_V D b0 nL p l e R s m args below meth c Q cs ss h lo tgt st) (kf : b = false → zz_V D b0 nL p l e R s m args below meth c Q cs ss h lo (pc + 3) st) : zz_V D b0 nL p l e R s m args below meth c Q cs ss h lo pc (.int (zz_b b) :: st) := zz_if_ne C hdg ht (fun q => kt (by cases b; exact absurd rfl q; rfl)) (fun q => kf (zz_b0.mp q))
theorem zz_ifnonnull (C : zz_C D b0 y cc nL ret p s m args meth c) {x : Nat} {off : Int} {tgt : Nat} (hdg : decode cc pc = .ok (.ifnonnull off, 3)) (ht : (pc : Int) + off = (tgt : Int)) (k : zz_V D b0 nL p l e R s m args below meth c Q cs ss h lo tgt st) : zz_V D b0 nL p l e R s m args below meth c Q cs ss h lo pc (.ref x :: st) := fun H locs la hP hS hl => lv_ifnonnull C.1 C.2.1 hdg ht (k H locs la hP hS hl)
theorem zz_ifnull (C : zz_C D b0 y cc nL ret p s m args meth c) {x : Nat} {off : Int} (hdg : decode cc pc = .ok (.ifnull off, 3)) (k : zz_V D b0 nL p l e R s m args below meth c Q cs ss h lo (pc + 3) st) : zz_V D b0 nL p l e R s m args below meth c Q cs ss h lo pc (.ref x :: st) := fun H locs la hP hS hl => lv_ifnull C.1 C.2.1 hdg (k H locs la hP hS hl)
theorem zz_ifnullN (C : zz_C D b0 y cc nL ret p s m args meth c) {off : Int} {tgt : Nat} (hdg : decode cc pc = .ok (.ifnull off, 3)) (ht : (pc : Int) + off = (tgt : Int)) (k : zz_V D b0 nL p l e R s m args below meth c Q cs ss h lo tgt st) : zz_V D b0 nL p l e R s m args below meth c Q cs ss h lo pc (.null :: st) := fun H locs la hP hS hl => lv_ifnullN C.1 C.2.1 hdg ht (k H locs la hP hS hl)
theorem zz_ifnonnullN (C : zz_C D b0 y cc nL ret p s m args meth c) {off : Int} (hdg : decode cc pc = .ok (.ifnonnull off, 3)) (k : zz_V D b0 nL p l e R s m args below meth c Q cs ss h lo (pc + 3) st) : zz_V D b0 nL p l e R s m args below meth c Q cs ss h lo pc (.null :: st) := fun H locs la hP hS hl => lv_ifnonnullN C.1 C.2.1 hdg (k H locs la hP hS hl)
theorem zz_tableIn (C : zz_C D b0 y cc nL ret p s m args meth c) {dflt lw hi : Int} {offs : Array Int} {len : Nat} {x : Int32} {off : Int} {tgt : Nat} (hdg : decode cc pc = .ok (.tableswitch dflt lw hi offs, len)) (h1 : ¬ x.toInt < lw) (h2 : ¬ hi < x.toInt) (ho : offs[(x.toInt - lw).toNat]? = some off) (ht : (pc : Int) + off = (tgt : Int)) (k : zz_V D b0 nL p l e R s m args below meth c Q cs ss h lo tgt st) : zz_V D b0 nL p l e R s m args below meth c Q cs ss h lo pc (.int x :: st) := fun H locs la hP hS hl => lv_tableIn C.1 C.2.1 hdg h1 h2 ho ht (k H locs la hP hS hl)
theorem zz_tableOut (C : zz_C D b0 y cc nL ret p s m args meth c) {dflt lw hi : Int} {offs : Array Int} {len : Nat} {x : Int32} {tgt : Nat} (hdg : decode cc pc = .ok (.tableswitch dflt lw hi offs, len)) (h1 : x.toInt < lw ∨ hi < x.toInt) (ht : (pc : Int) + dflt = (tgt : Int)) (k : zz_V D b0 nL p l e R s m args below meth c Q cs ss h lo tgt st) : zz_V D b0 nL p l e R s m args below meth c Q cs ss h lo pc (.int x :: st) := fun H locs la hP hS hl => lv_tableOut C.1 C.2.1 hdg h1 ht (k H locs la hP hS hl)
theorem zz_lookup (C : zz_C D b0 y cc nL ret p s m args meth c) {dflt : Int} {ps : Array (Int × Int)} {len : Nat} {x : Int32} {off : Int} {tgt : Nat} (hdg : decode cc pc = .ok (.lookupswitch dflt ps, len)) (hp : (ps.toList.zip (ps.toList.drop 1)).all (fun (a, next) => a.1 < next.1) = true) (ho : Op.lookupswitch.offset ps.toList dflt x.toInt = off) (ht : (pc : Int) + off = (tgt : Int)) (k : zz_V D b0 nL p l e R s m args below meth c Q cs ss h lo tgt st) : zz_V D b0 nL p l e R s m args below meth c Q cs ss h lo pc (.int x :: st) := fun H locs la hP hS hl => lv_lookup C.1 C.2.1 hdg hp ho ht (k H locs la hP hS hl)
/-! the heap -/
theorem zz_own {own : String} (C : zz_C D b0 y cc nL ret p s m args meth c) (ho : y.cls = own) : s.vm.findClass own = some m.cls := by rw [← ho]; exact C.2.2.2.1
theorem zz_one {H : Heap} {a : Nat} {x : va_E} (hP : zz_P D b0 h H) (hh : h a = some x) : va_P D zz_cl [(a, x)] H := by
  intro k q hk
  have hz : k < 1 := (List.getElem?_eq_some_iff.mp hk).1
  rw [show k = 0 by omega] at hk
  cases hk
  exact (hP a x hh).2
theorem zz_get (C : zz_C D b0 y cc nL ret p s m args meth c) {own ref Cn : String} {T : u_T} {N ci index a : Nat} {fs : List Value} {v : Value} (ho : y.cls = own) (hh : h a = some (.inr (ci, fs))) (hc : zz_cl[ci]? = some (Cn, T, N)) (hin : ∀ w ∈ u_ws Cn T N, w ∈ lw_all) (k : Nat) (hk : Nat.ble (k + 1) N = true) (hlink : Cond.fieldLink own index ref (T k).2.1 (T k).2.2.1 ∈ lw_all) (hsame : ∀ x, s.fieldFound? (T k).1 (T k).2.1 (T k).2.2.1 = some x → s.fieldFound? ref (T k).2.1 (T k).2.2.1 = some x) (hv : fs[k]? = some v) (hdg : decode cc pc = .ok (.getfield index, 3)) (kk : zz_V D b0 nL p l e R s m args below meth c Q cs ss h lo (pc + 3) (v :: st)) : zz_V D b0 nL p l e R s m args below meth c Q cs ss h lo pc (.ref a :: st) := fun H locs la hP hS hl => va_get C.1 C.2.1 C.2.2.2.2.1 hin (zz_own C ho) C.2.2.2.2.2.2.2.2.2.1 (zz_one hP hh) 0 rfl hc k (Nat.le_of_ble_eq_true hk) (C.2.2.2.2.1 _ hlink) hsame hv hdg (kk H locs la hP hS hl)
theorem zz_getN (C : zz_C D b0 y cc nL ret p s m args meth c) {own ref Cn host : String} {T : u_T} {N ci index a : Nat} {fs : List Value} {v : Value} (ho : y.cls = own) (hh : h a = some (.inr (ci, fs))) (hc : zz_cl[ci]? = some (Cn, T, N)) (hin : ∀ w ∈ u_ws Cn T N, w ∈ lw_all) (k : Nat) (hk : Nat.ble (k + 1) N = true) (hlink : va_Nw (Cond.fieldLinkNest own index ref (T k).2.1 (T k).2.2.1 host) s) (hsame : ∀ x, s.fieldFound? (T k).1 (T k).2.1 (T k).2.2.1 = some x → s.fieldFound? ref (T k).2.1 (T k).2.2.1 = some x) (hv : fs[k]? = some v) (hdg : decode cc pc = .ok (.getfield index, 3)) (kk : zz_V D b0 nL p l e R s m args below meth c Q cs ss h lo (pc + 3) (v :: st)) : zz_V D b0 nL p l e R s m args below meth c Q cs ss h lo pc (.ref a :: st) := fun H locs la hP hS hl => va_getN C.1 C.2.1 C.2.2.2.2.1 hin (zz_own C ho) C.2.2.2.2.2.2.2.2.2.1 (zz_one hP hh) 0 rfl hc k (Nat.le_of_ble_eq_true hk) (va_Nw.use rfl hlink) hsame hv hdg (kk H locs la hP hS hl)
theorem zz_nest (C : zz_C D b0 y cc nL ret p s m args meth c) (i : Nat) {t : String × Nat × String × String × String × String} (hi : zz_nF[i]? = some t) : va_Nw (.fieldLinkNest t.1 t.2.1 t.2.2.1 t.2.2.2.1 t.2.2.2.2.1 t.2.2.2.2.2) s := C.2.2.2.2.2.2.2.2.2.2.1.1 t (List.mem_of_getElem? hi)
theorem zz_put (C : zz_C D b0 y cc nL ret p s m args meth c) {own ref Cn : String} {T : u_T} {N ci index a : Nat} {fs : List Value} {v : Value} {ty : FieldType} (ho : y.cls = own) (hh : h a = some (.inr (ci, fs))) (hc : zz_cl[ci]? = some (Cn, T, N)) (hin : ∀ w ∈ u_ws Cn T N, w ∈ lw_all) (ty0 : Nat → FieldType) (hty : ∀ k, k < N → parseFieldDescriptor (T k).2.2.1 = some (ty0 k)) (hnm : ∀ a, a < N → ∀ b, b < N → a ≠ b → (T a).2.1 ≠ (T b).2.1) (k : Nat) (hk : Nat.ble (k + 1) N = true) (hlink : Cond.fieldLink own index ref (T k).2.1 (T k).2.2.1 ∈ lw_all) (hsame : ∀ x, s.fieldFound? (T k).1 (T k).2.1 (T k).2.2.1 = some x → s.fieldFound? ref (T k).2.1 (T k).2.2.1 = some x) (hfin : (T k).2.2.2 = false) (hd : parseFieldDescriptor (T k).2.2.1 = some ty) (hn : narrow ty v = v) (hfit : fits ty v = true) (hl0 : k < fs.length) (hdg : decode cc pc = .ok (.putfield index, 3)) (kk : zz_V D b0 nL p l e R s m args below meth c Q cs ss (zz_up h a (.inr (ci, fs.set k v))) lo (pc + 3) st) : zz_V D b0 nL p l e R s m args below meth c Q cs ss h lo pc (v :: .ref a :: st) := by
  intro H locs la hP hS hl
  have hap := va_apart (own := own) C.2.2.2.2.1 hin ty0 hty hnm C.2.2.2.2.2.2.2.2.2.1 hc
  have hk : k < N := Nat.le_of_ble_eq_true hk
  have hts := C.2.2.2.2.1
  have hown := zz_own C ho
  have hK := C.2.2.2.2.2.2.2.2.2.1
  obtain ⟨hba, r, h1, cell, q1, q2, q3, q4⟩ := hP a _ hh
  have hr : r = (Cn, T, N) := Option.some.inj (h1.symm.trans hc)
  subst hr
  obtain ⟨hS1, hfc, kC, hkC, hkind⟩ := hK.1 ci _ hc
  obtain ⟨cf, kf, fi, f, hi, hsl⟩ := hS1 k hk
  have hlay := hts _ (hin _ (u_in_lay hk))
  unfold u_lay at hlay
  rw [if_neg (by rw [hfin]; decide)] at hlay
  have hst := (u_facts hfc hkC (u_lays hts hin hk) hi).1
  have h6 := u_store hfc hkC hkind hlay hi hd hn hfit
  refine W.putK C.1 C.2.1 (f := f) ⟨hown, hts _ hlink, ⟨_, _, _, hsame _ hi⟩, hst⟩ (by rw [q2]; exact h6) q1 q3 (by rw [hsl]; exact k2_hasslot (q4 k hk)) rfl rfl hdg fun H' e1 e2 e3 => ?_
  rw [hsl] at e1 ⊢
  exact kk _ _ _ (hP.up hba ⟨_, hc, t_OB.to (V := updV (vp_V fs) k v) ⟨_, e1, q2, q3, t_set q4 hap hk v⟩ (fun j _ => vp_updV_set hl0 v j)⟩ e3) (hS.put e2 e3 hba) hl

theorem zz_putN (C : zz_C D b0 y cc nL ret p s m args meth c) {own ref Cn host : String} {T : u_T} {N ci index a : Nat} {fs : List Value} {v : Value} {ty : FieldType} (ho : y.cls = own) (hh : h a = some (.inr (ci, fs))) (hc : zz_cl[ci]? = some (Cn, T, N)) (hin : ∀ w ∈ u_ws Cn T N, w ∈ lw_all) (ty0 : Nat → FieldType) (hty : ∀ k, k < N → parseFieldDescriptor (T k).2.2.1 = some (ty0 k)) (hnm : ∀ a, a < N → ∀ b, b < N → a ≠ b → (T a).2.1 ≠ (T b).2.1) (k : Nat) (hk : Nat.ble (k + 1) N = true) (hlink : va_Nw (Cond.fieldLinkNest own index ref (T k).2.1 (T k).2.2.1 host) s) (hsame : ∀ x, s.fieldFound? (T k).1 (T k).2.1 (T k).2.2.1 = some x → s.fieldFound? ref (T k).2.1 (T k).2.2.1 = some x) (hfin : (T k).2.2.2 = false) (hd : parseFieldDescriptor (T k).2.2.1 = some ty) (hn : narrow ty v = v) (hfit : fits ty v = true) (hl0 : k < fs.length) (hdg : decode cc pc = .ok (.putfield index, 3)) (kk : zz_V D b0 nL p l e R s m args below meth c Q cs ss (zz_up h a (.inr (ci, fs.set k v))) lo (pc + 3) st) : zz_V D b0 nL p l e R s m args below meth c Q cs ss h lo pc (v :: .ref a :: st) := by
  intro H locs la hP hS hl
  have hap := va_apart (own := own) C.2.2.2.2.1 hin ty0 hty hnm C.2.2.2.2.2.2.2.2.2.1 hc
  have hk : k < N := Nat.le_of_ble_eq_true hk
  have hts := C.2.2.2.2.1
  have hown := zz_own C ho
  have hK := C.2.2.2.2.2.2.2.2.2.1
  obtain ⟨hba, r, h1, cell, q1, q2, q3, q4⟩ := hP a _ hh
  have hr : r = (Cn, T, N) := Option.some.inj (h1.symm.trans hc)
  subst hr
  obtain ⟨hS1, hfc, kC, hkC, hkind⟩ := hK.1 ci _ hc
  obtain ⟨cf, kf, fi, f, hi, hsl⟩ := hS1 k hk
  have hlay := hts _ (hin _ (u_in_lay hk))
  unfold u_lay at hlay
  rw [if_neg (by rw [hfin]; decide)] at hlay
  have hst := (u_facts hfc hkC (u_lays hts hin hk) hi).1
  have h6 := u_store hfc hkC hkind hlay hi hd hn hfit
  refine va_WputK C.1 C.2.1 (f := f) hown (va_Nw.use rfl hlink) (hsame _ hi) hst (by rw [q2]; exact h6) q1 q3 (by rw [hsl]; exact k2_hasslot (q4 k hk)) rfl rfl hdg fun H' e1 e2 e3 => ?_
  rw [hsl] at e1 ⊢
  exact kk _ _ _ (hP.up hba ⟨_, hc, t_OB.to (V := updV (vp_V fs) k v) ⟨_, e1, q2, q3, t_set q4 hap hk v⟩ (fun j _ => vp_updV_set hl0 v j)⟩ e3) (hS.put e2 e3 hba) hl

theorem zz_putF (C : zz_C D b0 y cc nL ret p s m args meth c) {own ref Cn : String} {T : u_T} {N ci index a : Nat} {fs : List Value} {v : Value} {ty : FieldType} (ho : y.cls = own) (hh : h a = some (.inr (ci, fs))) (hc : zz_cl[ci]? = some (Cn, T, N)) (hin : ∀ w ∈ u_ws Cn T N, w ∈ lw_all) (ty0 : Nat → FieldType) (hty : ∀ k, k < N → parseFieldDescriptor (T k).2.2.1 = some (ty0 k)) (hnm : ∀ a, a < N → ∀ b, b < N → a ≠ b → (T a).2.1 ≠ (T b).2.1) (k : Nat) (hk : Nat.ble (k + 1) N = true) (hlink : Cond.fieldLink own index ref (T k).2.1 (T k).2.2.1 ∈ lw_all) (hsame : ∀ x, s.fieldFound? (T k).1 (T k).2.1 (T k).2.2.1 = some x → s.fieldFound? ref (T k).2.1 (T k).2.2.1 = some x) (hfin : (T k).2.2.2 = true) (hin2 : y.name = "<init>") (hdecl : (T k).1 = own) (hd : parseFieldDescriptor (T k).2.2.1 = some ty) (hn : narrow ty v = v) (hfit : fits ty v = true) (hl0 : k < fs.length) (hdg : decode cc pc = .ok (.putfield index, 3)) (kk : zz_V D b0 nL p l e R s m args below meth c Q cs ss (zz_up h a (.inr (ci, fs.set k v))) lo (pc + 3) st) : zz_V D b0 nL p l e R s m args below meth c Q cs ss h lo pc (v :: .ref a :: st) := by
  intro H locs la hP hS hl
  have hap := va_apart (own := own) C.2.2.2.2.1 hin ty0 hty hnm C.2.2.2.2.2.2.2.2.2.1 hc
  have hk : k < N := Nat.le_of_ble_eq_true hk
  have hts := C.2.2.2.2.1
  have hown := zz_own C ho
  have hK := C.2.2.2.2.2.2.2.2.2.1
  obtain ⟨hba, r, h1, cell, q1, q2, q3, q4⟩ := hP a _ hh
  have hr : r = (Cn, T, N) := Option.some.inj (h1.symm.trans hc)
  subst hr
  obtain ⟨hS1, hfc, kC, hkC, hkind⟩ := hK.1 ci _ hc
  obtain ⟨cf, kf, fi, f, hi, hsl⟩ := hS1 k hk
  have hlay := hts _ (hin _ (u_in_lay hk))
  unfold u_lay at hlay
  rw [if_pos hfin] at hlay
  have hst := (u_facts hfc hkC (u_lays hts hin hk) hi).1
  have hcf : m.cls = cf := by
    obtain ⟨_, _, c', _, _, _, -, -, hf', -, -, -, hown2, -⟩ := Cond.laysFinal_spec hlay
    have e1 : c' = cf := by have := hi.symm.trans hf'; simp at this; exact this.1.symm
    rw [hdecl] at hown2
    rw [← e1]; exact Option.some.inj (hown.symm.trans hown2)
  have h6 := u_fits hfc hkC hkind (Or.inr hlay) hi hd hn hfit
  refine W.putFinK C.1 C.2.1 hown (hts _ hlink) (hsame _ hi) hst hcf (C.2.2.2.2.2.2.2.1.trans hin2) (by rw [q2]; exact h6) q1 q3 (by rw [hsl]; exact k2_hasslot (q4 k hk)) rfl rfl hdg fun H' e1 e2 e3 => ?_
  rw [hsl] at e1 ⊢
  exact kk _ _ _ (hP.up hba ⟨_, hc, t_OB.to (V := updV (vp_V fs) k v) ⟨_, e1, q2, q3, t_set q4 hap hk v⟩ (fun j _ => vp_updV_set hl0 v j)⟩ e3) (hS.put e2 e3 hba) hl

theorem zz_new (C : zz_C D b0 y cc nL ret p s m args meth c) {own Cn : String} {T : u_T} {N ci index : Nat} (ho : y.cls = own) (hc : zz_cl[ci]? = some (Cn, T, N)) (hin : ∀ w ∈ u_ws Cn T N, w ∈ lw_all) (ty : Nat → FieldType) (hty : ∀ k, k < N → parseFieldDescriptor (T k).2.2.1 = some (ty k)) (hcl : Cond.classLink own index Cn ∈ lw_all) (hinst : Cond.instantiable Cn N ∈ lw_all) (hini : Cond.initialized Cn ∈ lw_all) {fs : List Value} (hfs : ∀ j, j < N → defaultValue (ty j) = vp_V fs j) (hcells : Nat.ble (cs + 1) R.cells = true) (hslots : Nat.ble (ss + N) R.slots = true) (hdg : decode cc pc = .ok (.new index, 3)) (kk : ∀ o : Nat, h o = none → b0 ≤ o → zz_V D b0 nL p l e R s m args below meth c Q (cs + 1) (ss + N) (zz_up h o (.inr (ci, fs))) lo (pc + 3) (.ref o :: st)) : zz_V D b0 nL p l e R s m args below meth c Q cs ss h lo pc st := by
  intro H locs la hP hS hl
  have hts := C.2.2.2.2.1
  have hK := C.2.2.2.2.2.2.2.2.2.1
  have hKn := hK.1 ci _ hc
  refine W.newcK C.1 C.2.1 (zz_own C ho) (hts _ hcl) (hts _ hinst) (hts _ hini) rfl hdg (Nat.le_of_ble_eq_true hcells) (Nat.le_of_ble_eq_true hslots) hKn.2.1 rfl fun H1 kC hkC e1 z1 o1 => ?_
  have hb : b0 ≤ H.size := Nat.le_trans C.2.2.2.2.2.2.2.2.1 hS.1
  exact kk H.size hP.none hb H1 locs la (hP.new rfl hb ⟨_, hc, (u_born ty hts hin hKn hkC e1 hty).to hfs⟩ o1) ⟨Nat.le_trans hS.1 (by omega), fun x h1 h2 => (o1 x (Nat.lt_of_lt_of_le h1 hS.1)).trans (hS.2.1 x h1 h2), hS.2.2⟩ hl
theorem zz_objInit (C : zz_C D b0 y cc nL ret p s m args meth c) {own : String} {idx a : Nat} (ho : y.cls = own) (hlink : Cond.methodLink own idx Lib.objectInit ∈ lw_all) (hinst : Cond.instanceMethod Lib.objectInit ∈ lw_all) (hcode : Cond.code Lib.objectInit ⟨#[0xb1]⟩ 1 none ∈ lw_all) (hd : decode cc pc = .ok (.invokespecial idx, 3)) (hW : Nat.ble ((st.map fun v => v.category).sum) 8 = true) (hframes : Nat.ble 1 R.frames = true) (hlocals : Nat.ble 20 R.locals = true) (kk : zz_V D b0 nL p l e R s m args below meth c Q cs ss h lo (pc + 3) st) : zz_V D b0 nL p l e R s m args below meth c Q cs ss h lo pc (.ref a :: st) := by
  intro H locs la hP hS hl
  have hts := C.2.2.2.2.1
  have hw := Nat.le_of_ble_eq_true hW
  have hl2 := Nat.le_of_ble_eq_true hlocals
  refine W.objInit C.1 C.2.1 (zz_own C ho) (hts _ hlink) (hts _ hinst) (hts _ hcode) rfl (by rw [C.2.2.1]; exact hl.1) rfl hd (Nat.le_of_ble_eq_true hframes) ?_ (kk H locs la hP hS hl)
  have h0 : 2 * (F0 m pc la (.ref a :: st)).monitorRoom = 0 := by simp [JFrame.monitorRoom]
  omega

end ZZ
