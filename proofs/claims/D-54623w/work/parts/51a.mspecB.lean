/-! MORRISTABLES: what queries answer -/
def rep (S : CS) : SS := (S.1.2, S.2.1.2.map (fun x => x.2), fun k => (S.2.2.1 k).map (fun x => x.2), S.2.2.2.1.2.2.2)
def cntB (x : Int32) : Bool := decide (x = 4 ∨ x = 5 ∨ x = 6)
def wofB (a b c : Int32) : Bool := in511 a && in511 b && in01 c
def qX0_isPoint (x0 r : Int32) : Prop := r = b2 (in09 x0)
theorem isIn_eq {x a b r : Int32} (A B : Int) (ha : a.toInt = A) (hb : b.toInt = B) (h : qX0_isIn x a b r) : r = b2 (decide (A ≤ x.toInt ∧ x.toInt ≤ B)) := by
  unfold qX0_isIn at h
  rw [h]
  congr 1
  rw [decide_eq_decide, Int32.le_iff_toInt_le, Int32.le_iff_toInt_le, ha, hb]
theorem best_first {g : Gm} {q : Nat} (hg : gok g) (ho : overG g = false) (hq : q ∈ mvC g) (hw : wB g q = due (wG g)) : bestG g ≤ q := by
  have hb := best_mem hg ho
  unfold bestG at hb ⊢
  have e : (mvC g).find? (fun q => decide (wB g q = due (wG g))) = (List.range 91).find? (fun q => isMv g.1 g.2.1 (meB (cur g)) (otB (cur g)) q && decide (wB g q = due (wG g))) := by
    show ((List.range 91).filter _).find? _ = _
    rw [List.find?_filter]
    congr 1
    funext a
    cases isMv g.1 g.2.1 (meB (cur g)) (otB (cur g)) a <;> simp
  rw [e] at hb ⊢
  cases hf : (List.range 91).find? (fun q => isMv g.1 g.2.1 (meB (cur g)) (otB (cur g)) q && decide (wB g q = due (wG g))) with
  | none =>
    have h1 := List.find?_eq_none.mp hf q (List.mem_range.mpr (mvC_lt hq))
    rw [(mem_mvl.mp hq).2, decide_eq_true hw] at h1
    exact absurd rfl h1
  | some b =>
    show b ≤ q
    rw [List.find?_range_eq_some] at hf
    refine Nat.le_of_not_lt fun z => ?_
    have h1 := hf.2.2 q z
    rw [(mem_mvl.mp hq).2, decide_eq_true hw] at h1
    cases h1
theorem filt_at {p : Nat → Bool} {q n : Nat} (hq : q < n) (hp : p q = true) : ((List.range n).filter p)[(List.range q).countP p]? = some q := by
  have e : List.range n = List.range q ++ q :: (List.range (n - q - 1)).map (fun i => q + 1 + i) := by
    have h1 : List.range n = List.range (q + (n - q)) := by congr 1; omega
    rw [h1, List.range_add]
    congr 1
    have h2 : n - q = (n - q - 1) + 1 := by omega
    rw [h2, List.range_succ_eq_map]
    simp [List.map_map, Function.comp_def, Nat.add_assoc, Nat.add_comm 1]
  rw [e, List.filter_append, List.countP_eq_length_filter, List.getElem?_append_right (Nat.le_refl _), Nat.sub_self, List.filter_cons_of_pos hp]
  rfl
