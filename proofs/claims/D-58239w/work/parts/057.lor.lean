/-! what stands on a lorry: by blocks, or by places -/
def ca_on (a : Nat → Int32) (l : Int32) (b : Nat) : Bool := decide (a (12 + 10 * b + 4) = 2) && decide (a (12 + 10 * b + 8) / 5 = l)
def ca_hc (a : Nat → Int32) (l : Int32) : Nat → Bool
  | 0 => false
  | n + 1 => ca_hc a l n || (ca_on a l n && decide (a (12 + 10 * n + 6) = 1))
def ca_f (a : Nat → Int32) (nb : Nat) (l : Int32) (p : Nat) : Option Nat := if qa_find a (5 * l + nI p) nb = -6 then none else some (qa_find a (5 * l + nI p) nb).toNatClampNeg
abbrev ca_L1 (a : Nat → Int32) (l : Int32) (n : Nat) : List Nat := (List.range n).filter (ca_on a l)
abbrev ca_L2 (a : Nat → Int32) (nb : Nat) (l : Int32) (n : Nat) : List Nat := (List.range n).filterMap (ca_f a nb l)
theorem ca_5 (l p : Nat) : 5 * nI l + nI p = nI (5 * l + p) := zz_ixm 5 l p
theorem ca_sp {a : Nat → Int32} {nb no b s : Nat} (h : wfn a nb no) (hb : b < nb) (hs : s < 15) (e : a (12 + 10 * b + 8) = nI s) : a (12 + 10 * b + 4) = 2 := by
  rcases h.spot hb with ⟨h1, -⟩ | ⟨-, h2⟩
  · exact h1
  · rw [h2] at e
    exact absurd e.symm (qa_n6 (by omega))
theorem ca_fi {a : Nat → Int32} {nb no b s : Nat} (h : wfn a nb no) (hb : b < nb) (hs : s < 15) (e : a (12 + 10 * b + 8) = nI s) : qa_find a (nI s) nb = nI b := by
  rcases qa_find_c a (nI s) nb with g | ⟨c, hc, g1, g2⟩
  · exact absurd e (qa_find_n nb h.1 g b hb)
  · have : c = b := h.2.2.2.2.2.2.2.2 c b hc hb (g2.trans e.symm) (by rw [g2]; exact qa_n6 (by omega))
    rw [g1, this]
theorem ca_on_iff {a : Nat → Int32} {nb no b l : Nat} (h : wfn a nb no) (hb : b < nb) (hl : l < 3) : ca_on a (nI l) b = true ↔ ∃ p : Nat, p < 5 ∧ a (12 + 10 * b + 8) = nI (5 * l + p) := by
  unfold ca_on
  rw [Bool.and_eq_true, decide_eq_true_eq, decide_eq_true_eq]
  constructor
  · rintro ⟨h1, h2⟩
    rcases h.spot hb with ⟨-, s, hs, e⟩ | ⟨h3, -⟩
    · rw [e, show (5 : Int32) = nI 5 from rfl, pk_div (by omega) (by decide) (by decide), nI_eq (by omega) (by omega)] at h2
      exact ⟨s % 5, by omega, by rw [e]; congr 1; omega⟩
    · exact absurd h1 h3
  · rintro ⟨p, hp, e⟩
    refine ⟨ca_sp h hb (by omega) e, ?_⟩
    rw [e, show (5 : Int32) = nI 5 from rfl, pk_div (by omega) (by decide) (by decide)]
    congr 1
    omega
theorem ca_f_iff {a : Nat → Int32} {nb no b l p : Nat} (h : wfn a nb no) (hl : l < 3) (hp : p < 5) : ca_f a nb (nI l) p = some b ↔ b < nb ∧ a (12 + 10 * b + 8) = nI (5 * l + p) := by
  have hn := h.1
  unfold ca_f
  rw [ca_5]
  constructor
  · intro g
    split at g
    · cases g
    · rename_i hne
      obtain ⟨c, hc, e1, e2⟩ := qa_find_i hne
      rw [e1, nI_clamp (by omega)] at g
      cases g
      exact ⟨hc, e2⟩
  · rintro ⟨hb, e⟩
    have e1 := ca_fi h hb (by omega) e
    rw [e1, if_neg (qa_n6 (by omega)), nI_clamp (by omega)]
theorem ca_perm {a : Nat → Int32} {nb no l : Nat} (h : wfn a nb no) (hl : l < 3) : (ca_L1 a (nI l) nb).Perm (ca_L2 a nb (nI l) 5) := by
  refine (List.perm_ext_iff_of_nodup (List.Pairwise.filter _ List.nodup_range) ?_).mpr (fun b => ?_)
  · unfold ca_L2 List.Nodup
    rw [List.pairwise_filterMap]
    refine List.Pairwise.imp_of_mem (R := fun a b => a < b) ?_ List.pairwise_lt_range
    intro p p' hp hp' hlt b hb b' hb' e
    have hp := List.mem_range.mp hp
    have hp' := List.mem_range.mp hp'
    subst e
    have g1 := ((ca_f_iff h hl hp).mp hb).2
    have g2 := ((ca_f_iff h hl hp').mp hb').2
    rw [g1, nI_eq (by omega) (by omega)] at g2
    omega
  · rw [List.mem_filter, List.mem_range, List.mem_filterMap]
    constructor
    · rintro ⟨hb, ho⟩
      obtain ⟨p, hp, e⟩ := (ca_on_iff h hb hl).mp ho
      exact ⟨p, List.mem_range.mpr hp, (ca_f_iff h hl hp).mpr ⟨hb, e⟩⟩
    · rintro ⟨p, hp, e⟩
      have hp := List.mem_range.mp hp
      obtain ⟨hb, e2⟩ := (ca_f_iff h hl hp).mp e
      exact ⟨hb, (ca_on_iff h hb hl).mpr ⟨p, hp, e2⟩⟩
theorem ca_s1 (f : Nat → Bool) (g : Nat → Int32) : ∀ n : Nat, qa_sum (fun b => if f b = true then g b else 0) n = ((List.range n).filter f).foldl (fun s b => s + g b) 0
  | 0 => rfl
  | n + 1 => by
    rw [List.range_succ, List.filter_append, List.foldl_append, ← ca_s1 f g n]
    show qa_sum _ n + (if f n = true then g n else 0) = _
    cases hf : f n <;> simp [List.filter, hf]
theorem ca_o1 (f : Nat → Bool) : ∀ n : Nat, qa_or f n = ((List.range n).filter f).foldl (fun s b => s ||| ((1 : Int32) <<< (nI b &&& 31))) 0
  | 0 => rfl
  | n + 1 => by
    rw [List.range_succ, List.filter_append, List.foldl_append, ← ca_o1 f n]
    show qa_or f n ||| (if f n = true then (1 : Int32) <<< (nI n &&& 31) else 0) = _
    cases hf : f n <;> simp [List.filter, hf]
theorem ca_h1 (a : Nat → Int32) (l : Int32) : ∀ n : Nat, ca_hc a l n = (ca_L1 a l n).foldl (fun s b => s || decide (a (12 + 10 * b + 6) = 1)) false
  | 0 => rfl
  | n + 1 => by
    unfold ca_L1
    rw [List.range_succ, List.filter_append, List.foldl_append, ← ca_h1 a l n]
    show (ca_hc a l n || _) = _
    cases hf : ca_on a l n <;> simp [List.filter, hf]
theorem ca_s2 (a : Nat → Int32) (nb : Nat) (l : Int32) : ∀ n : Nat, qa_load a nb l n = (ca_L2 a nb l n).foldl (fun s b => s + qa_w a b) 0
  | 0 => rfl
  | n + 1 => by
    unfold ca_L2
    rw [List.range_succ, List.filterMap_append, List.foldl_append, ← ca_s2 a nb l n]
    show qa_load a nb l n + qa_pw a nb (5 * l + nI n) = _
    unfold qa_pw
    by_cases h : qa_find a (5 * l + nI n) nb = -6
    · rw [if_pos h, List.filterMap_cons, show ca_f a nb l n = none from if_pos h]
      simp
    · rw [if_neg h, List.filterMap_cons, show ca_f a nb l n = some _ from if_neg h]
      simp
theorem ca_o2 (a : Nat → Int32) (nb : Nat) (hnb : nb ≤ 24) (l : Int32) : ∀ n : Nat, qa_on a nb l n = (ca_L2 a nb l n).foldl (fun s b => s ||| ((1 : Int32) <<< (nI b &&& 31))) 0
  | 0 => rfl
  | n + 1 => by
    unfold ca_L2
    rw [List.range_succ, List.filterMap_append, List.foldl_append, ← ca_o2 a nb hnb l n]
    show qa_on a nb l n ||| (if qa_find a (5 * l + nI n) nb = -6 then 0 else (1 : Int32) <<< (qa_find a (5 * l + nI n) nb &&& 31)) = _
    by_cases h : qa_find a (5 * l + nI n) nb = -6
    · rw [if_pos h, List.filterMap_cons, show ca_f a nb l n = none from if_pos h]
      simp
    · obtain ⟨c, hc, e1, -⟩ := qa_find_i h
      rw [if_neg h, List.filterMap_cons, show ca_f a nb l n = some _ from if_neg h, e1, nI_clamp (by omega)]
      simp
theorem ca_h2 (a : Nat → Int32) (nb : Nat) (l : Int32) : ∀ n : Nat, qa_hc a nb l n = (ca_L2 a nb l n).foldl (fun s b => s || decide (a (12 + 10 * b + 6) = 1)) false
  | 0 => rfl
  | n + 1 => by
    unfold ca_L2
    rw [List.range_succ, List.filterMap_append, List.foldl_append, ← ca_h2 a nb l n]
    show (qa_hc a nb l n || (!decide (qa_find a (5 * l + nI n) nb = -6) && decide (a (12 + 10 * (qa_find a (5 * l + nI n) nb).toNatClampNeg + 6) = 1))) = _
    by_cases h : qa_find a (5 * l + nI n) nb = -6
    · rw [List.filterMap_cons, show ca_f a nb l n = none from if_pos h, h]
      simp
    · rw [List.filterMap_cons, show ca_f a nb l n = some _ from if_neg h]
      simp [h]
theorem ca_load {a : Nat → Int32} {nb no l : Nat} (h : wfn a nb no) (hl : l < 3) : qa_sum (fun b => if ca_on a (nI l) b = true then qa_w a b else 0) nb = qa_load a nb (nI l) 5 := by
  rw [ca_s1, ca_s2]
  exact (ca_perm h hl).foldl_eq' (fun x _ y _ z => by rw [Int32.add_assoc, Int32.add_comm (qa_w a x), ← Int32.add_assoc]) 0
theorem ca_ons {a : Nat → Int32} {nb no l : Nat} (h : wfn a nb no) (hl : l < 3) : qa_or (ca_on a (nI l)) nb = qa_on a nb (nI l) 5 := by
  rw [ca_o1, ca_o2 a nb h.1]
  exact (ca_perm h hl).foldl_eq' (fun x _ y _ z => by rw [Int32.or_assoc, Int32.or_comm ((1 : Int32) <<< (nI x &&& 31)), ← Int32.or_assoc]) 0
theorem ca_hcs {a : Nat → Int32} {nb no l : Nat} (h : wfn a nb no) (hl : l < 3) : ca_hc a (nI l) nb = qa_hc a nb (nI l) 5 := by
  rw [ca_h1, ca_h2]
  exact (ca_perm h hl).foldl_eq' (fun x _ y _ z => by rw [Bool.or_assoc, Bool.or_comm (decide (a (12 + 10 * x + 6) = 1)), ← Bool.or_assoc]) false
/-- what is looked for at a place -/
theorem ca_at {a : Nat → Int32} {nb no b l p : Nat} (h : wfn a nb no) (hb : b < nb) (hl : l < 3) (hp : p < 5) (h1 : ca_on a (nI l) b = true) (h2 : a (12 + 10 * b + 8) - a (12 + 10 * b + 8) / 5 * 5 = nI p) : qa_find a (5 * nI l + nI p) nb = nI b := by
  obtain ⟨p', hp', e⟩ := (ca_on_iff h hb hl).mp h1
  rw [e, show (5 : Int32) = nI 5 from rfl, pk_rem (by omega) (by decide) (by decide), nI_eq (by omega) (by omega)] at h2
  rw [ca_5]
  exact ca_fi h hb (by omega) (by rw [e]; congr 1; omega)
theorem ca_nat {a : Nat → Int32} {nb no l p : Nat} (h : wfn a nb no) (hl : l < 3) (hp : p < 5) (hno : ∀ b : Nat, b < nb → ¬ (ca_on a (nI l) b = true ∧ a (12 + 10 * b + 8) - a (12 + 10 * b + 8) / 5 * 5 = nI p)) : qa_find a (5 * nI l + nI p) nb = -6 := by
  rcases qa_find_c a (5 * nI l + nI p) nb with g | ⟨c, hc, g1, g2⟩
  · exact g
  · exfalso
    rw [ca_5] at g2
    refine hno c hc ⟨(ca_on_iff h hc hl).mpr ⟨p, hp, g2⟩, ?_⟩
    rw [g2, show (5 : Int32) = nI 5 from rfl, pk_rem (by omega) (by decide) (by decide)]
    congr 1
    omega
/-- the value of a place -/
def qu_pv (ad : Nat → Nat) (f : Int32) : Value := if f = -6 then .null else .ref (ad (10 + f.toNatClampNeg))
theorem qu_pv_n {ad : Nat → Nat} {f : Int32} (h : f = -6) : qu_pv ad f = .null := if_pos h
theorem qu_pv_s {ad : Nat → Nat} {f : Int32} {b : Nat} (h : f = nI b) (hb : b < 2 ^ 31) : qu_pv ad f = .ref (ad (10 + b)) := by
  unfold qu_pv
  rw [h, if_neg (qa_n6 hb), nI_clamp hb]
