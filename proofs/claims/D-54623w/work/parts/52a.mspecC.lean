/-! MORRISTABLES: counting in the table -/
def sgI (w : Int) : Int32 := if 0 < w then 1 else if w < 0 then -1 else 0
noncomputable def withX (d l : Nat) (x : Int32) : Int32 := nI ((LB d).countP (fun b => decide (sgI (wrb d l b) = x)))
noncomputable def lonL (d l : Nat) (F : Int → Int) (L : List Bd) : Int := L.foldl (fun m b => max m (F (wrb d l b))) 0
def lonF (x : Int32) (w : Int) : Int := if x = 0 then -1 - w else w
noncomputable def lonX (d l : Nat) (x : Int32) : Int32 := iI (lonL d l (lonF x) (LB d))
def talB (x : Int32) : Bool := decide (x = 0 ∨ x = 1 ∨ x = 2 ∨ x = 3 ∨ x = 4 ∨ x = 5)
def manB (x : Int32) : Bool := decide (0 ≤ x.toInt ∧ x.toInt ≤ 200)
theorem fm_perm {α : Type} (f : α → Int) {L L' : List α} (h : L.Perm L') : ∀ m, L.foldl (fun m c => max m (f c)) m = L'.foldl (fun m c => max m (f c)) m := by
  induction h with
  | nil => intro m; rfl
  | cons x _ ih => intro m; exact ih _
  | swap x y l =>
    intro m
    show l.foldl _ (max (max m (f y)) (f x)) = l.foldl _ (max (max m (f x)) (f y))
    rw [show max (max m (f y)) (f x) = max (max m (f x)) (f y) by omega]
  | trans _ _ ih1 ih2 => intro m; exact (ih1 m).trans (ih2 m)
theorem lon_fold (d l : Nat) (F : Int → Int) : ∀ n, lonC d l F n = ((List.range n).filter (fun c => legB d (bOf c))).foldl (fun m c => max m (F (wrb d l (bOf c)))) 0
  | 0 => rfl
  | n + 1 => by
    show (if legB d (bOf n) = true then max (lonC d l F n) (F (wrb d l (bOf n))) else lonC d l F n) = _
    rw [List.range_succ, List.filter_append, List.foldl_append, ← lon_fold d l F n]
    by_cases h : legB d (bOf n) = true
    · rw [if_pos h, List.filter_cons_of_pos (p := fun c => legB d (bOf c)) h]; rfl
    · rw [if_neg h, List.filter_cons_of_neg (p := fun c => legB d (bOf c)) h]; rfl
theorem lon_LB (d l : Nat) (F : Int → Int) : lonC d l F 39366 = lonL d l F (LB d) := by
  rw [lon_fold, fm_perm (fun c => F (wrb d l (bOf c))) (cod_perm d), List.foldl_map]
  unfold lonL
  have : ∀ (L : List Bd), (∀ b ∈ L, bokB b) → ∀ m, L.foldl (fun m b => max m (F (wrb d l (bOf (codB b))))) m = L.foldl (fun m b => max m (F (wrb d l b))) m := by
    intro L
    induction L with
    | nil => intro _ m; rfl
    | cons b L ih =>
      intro h m
      show L.foldl _ (max m (F (wrb d l (bOf (codB b))))) = L.foldl _ (max m (F (wrb d l b)))
      rw [bOf_cod (h b List.mem_cons_self)]
      exact ih (fun c hc => h c (List.mem_cons_of_mem _ hc)) _
  exact this _ (fun b hb => (LB_mem.mp hb).1) 0
theorem take_cnt {α : Type} {L : List α} {k : Nat} {b : α} (P : α → Bool) (h : L[k]? = some b) : (L.take (k + 1)).countP P = (L.take k).countP P + (if P b then 1 else 0) := by
  rw [List.take_add_one, h, List.countP_append]
  show _ + List.countP P [b] = _
  rw [List.countP_singleton]
theorem take_lon {d l : Nat} {F : Int → Int} {L : List Bd} {k : Nat} {b : Bd} (h : L[k]? = some b) : lonL d l F (L.take (k + 1)) = max (lonL d l F (L.take k)) (F (wrb d l b)) := by
  unfold lonL
  rw [List.take_add_one, h, List.foldl_append]
  rfl
theorem lonL_rng {d l : Nat} {F : Int → Int} : ∀ (L : List Bd) (m : Int), (∀ b ∈ L, F (wrb d l b) ≤ 10) → 0 ≤ m → m ≤ 10 → 0 ≤ L.foldl (fun m b => max m (F (wrb d l b))) m ∧ L.foldl (fun m b => max m (F (wrb d l b))) m ≤ 10
  | [], m, _, h1, h2 => ⟨h1, h2⟩
  | b :: L, m, h, h1, h2 => by
    have := h b List.mem_cons_self
    exact lonL_rng L (max m (F (wrb d l b))) (fun c hc => h c (List.mem_cons_of_mem _ hc)) (by omega) (by omega)
theorem lonF_le {x : Int32} {w : Int} (h1 : -11 ≤ w) (h2 : w ≤ 10) : -11 ≤ lonF x w ∧ lonF x w ≤ 10 := by
  unfold lonF
  split <;> omega
theorem LB_rng {d l : Nat} (hd : d < 2) (hl : l < 2) {b : Bd} (hb : b ∈ LB d) : -11 ≤ wrb d l b ∧ wrb d l b ≤ 10 := wrb_rng hd hl (LB_mem.mp hb).1 (LB_mem.mp hb).2
theorem sgI_1 (w : Int) : decide (sgI w = 1) = decide (0 < w) := by
  unfold sgI
  by_cases h : 0 < w
  · rw [if_pos h, decide_eq_true h]; rfl
  · rw [if_neg h, decide_eq_false h]
    split <;> rfl
theorem sgI_m (w : Int) : decide (sgI w = -1) = decide (w < 0) := by
  unfold sgI
  by_cases h : 0 < w
  · rw [if_pos h, decide_eq_false (show ¬ w < 0 by omega)]; rfl
  · rw [if_neg h]
    by_cases h2 : w < 0
    · rw [if_pos h2, decide_eq_true h2]; rfl
    · rw [if_neg h2, decide_eq_false h2]; rfl
theorem sgI_0 (w : Int) : decide (sgI w = 0) = decide (w = 0) := by
  unfold sgI
  by_cases h : 0 < w
  · rw [if_pos h, decide_eq_false (show ¬ w = 0 by omega)]; rfl
  · rw [if_neg h]
    by_cases h2 : w < 0
    · rw [if_pos h2, decide_eq_false (show ¬ w = 0 by omega)]; rfl
    · rw [if_neg h2, decide_eq_true (show w = 0 by omega)]; rfl
theorem tal0_LB (d l : Nat) : talG 0 d l = nI (LB d).length := by
  show nI (talC d l (fun _ => true) 39366) = _
  rw [tal_LB, List.countP_true]
theorem tal1_LB (d l : Nat) : talG 1 d l = withX d l 1 := by
  show nI (talC d l (fun w => decide (0 < w)) 39366) = _
  rw [tal_LB]
  unfold withX
  simp only [sgI_1]
theorem tal2_LB (d l : Nat) : talG 2 d l = withX d l (-1) := by
  show nI (talC d l (fun w => decide (w < 0)) 39366) = _
  rw [tal_LB]
  unfold withX
  simp only [sgI_m]
theorem tal3_LB (d l : Nat) : talG 3 d l = withX d l 0 := by
  show nI (talC d l (fun w => decide (w = 0)) 39366) = _
  rw [tal_LB]
  unfold withX
  simp only [sgI_0]
theorem tal4_LB (d l : Nat) : talG 4 d l = lonX d l 1 := by
  show iI (lonC d l (fun w => w) 39366) = _
  rw [lon_LB]
  rfl
theorem tal5_LB (d l : Nat) : talG 5 d l = lonX d l 0 := by
  show iI (lonC d l (fun w => -1 - w) 39366) = _
  rw [lon_LB]
  rfl
