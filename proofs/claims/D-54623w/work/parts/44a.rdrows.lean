/-! READER: the pad, and small rows -/
/-- the signs P stand at the start of f -/
def pdOK (P : List Nat) (f : Nat → Int32) (cap : Nat) : Prop := P.length ≤ 80 ∧ P.length ≤ cap ∧ cap < 100000 ∧ (∀ i, i < P.length → f i = nI (chP P i)) ∧ ∀ c ∈ P, 33 ≤ c ∧ c ≤ 126
theorem pd_lt {P : List Nat} {f : Nat → Int32} {cap : Nat} (h : pdOK P f cap) (i : Nat) : chP P i < 128 := by
  unfold chP
  rw [List.getD_eq_getElem?_getD]
  cases hi : P[i]? with
  | none => show 0 < 128; decide
  | some x =>
    have := h.2.2.2.2 x (List.mem_of_getElem? hi)
    show x < 128
    omega
theorem nx_out {P : List Nat} {sp : Nat} (h : P.length ≤ sp) : (0 : Int32) = nI (chP P sp) := by
  unfold chP
  rw [List.getD_eq_getElem?_getD, List.getElem?_eq_none h]; rfl
theorem ch_in {P : List Nat} {sp : Nat} (h : ¬ chP P sp = 0) : sp < P.length := by
  apply Classical.byContradiction
  intro z
  apply h
  unfold chP
  rw [List.getD_eq_getElem?_getD, List.getElem?_eq_none (by omega)]; rfl
theorem dg_in {P : List Nat} {sp : Nat} (h : dg1 (chP P sp) = true) : sp < P.length := ch_in (fun z => by
  rw [z] at h
  exact absurd h (by decide))
theorem dg_49 {c : Nat} (h : dg1 c = true) : 49 ≤ c := (of_decide_eq_true h).1
theorem dg_48 {c : Nat} (h : dg0 c = true) : 48 ≤ c := (of_decide_eq_true h).1
theorem se_lt {z0 c : Nat} (hz0 : z0 < 128) (hc : c < 128) (h : nI c < nI z0) : (0 : Int32) = b2 (decide (z0 ≤ c ∧ c ≤ 57)) := by
  have := nl_of h (by omega) (by omega)
  rw [decide_eq_false (by omega)]; rfl
theorem se_gt {z0 c : Nat} (hc : c < 128) (h : (57 : Int32) < nI c) : (0 : Int32) = b2 (decide (z0 ≤ c ∧ c ≤ 57)) := by
  have := nl_of (show nI 57 < nI c from h) (by omega) (by omega)
  rw [decide_eq_false (by omega)]; rfl
theorem se_ok {z0 c : Nat} (hz0 : z0 < 128) (hc : c < 128) (h : ¬ nI c < nI z0) (h2 : ¬ (57 : Int32) < nI c) : (1 : Int32) = b2 (decide (z0 ≤ c ∧ c ≤ 57)) := by
  have := nge_of h (by omega) (by omega)
  have := nge_of (show ¬ nI 57 < nI c from h2) (by omega) (by omega)
  rw [decide_eq_true (by omega)]; rfl
/-- an order as a row of three numbers -/
def od3 (o : Od) : Nat → Int32 := fun j => if j = 0 then nI o.1 else if j = 1 then nI o.2.1 else nI o.2.2
theorem od3_ok (x y z : Nat) : ∀ i, i < 3 → upd (upd (upd (fun _ => 0) (0 : Int32).toNatClampNeg (nI x)) (1 : Int32).toNatClampNeg (nI y)) (2 : Int32).toNatClampNeg (nI z) i = od3 (x, y, z) i := by
  intro i hi
  show upd (upd (upd (fun _ => 0) 0 (nI x)) 1 (nI y)) 2 (nI z) i = _
  rcases (show i = 0 ∨ i = 1 ∨ i = 2 by omega) with rfl | rfl | rfl
  · rw [pk_un (by decide), pk_un (by decide), pk_us]; rfl
  · rw [pk_un (by decide), pk_us]; rfl
  · rw [pk_us]; rfl
