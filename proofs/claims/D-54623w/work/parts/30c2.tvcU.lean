/-! findLegal -/
def lstT (L : List Bd) (st : MS) : Prop := st.2 2 = nI L.length ∧ ∀ k b, L[k]? = some b → st.1 3 k = nI (pkB b)
theorem addT_lst {d l : Nat} {b : Bd} {st : MS} {L : List Bd} (h : lstT L st) (hl : L.length < 1000000) : lstT (L ++ if isLg d b then [b] else []) (addT d l b st) := by
  unfold addT
  by_cases hb : isLg d b = true
  · rw [if_pos hb, if_pos hb]
    refine ⟨?_, fun k c hk => ?_⟩
    · show st.2 2 + 1 = _
      rw [h.1, nI_up, List.length_append]; rfl
    · show upd (st.1 3) (st.2 2).toNatClampNeg (nI (pkB b)) k = _
      rw [h.1, nI_clamp (by omega)]
      rcases Nat.lt_trichotomy k L.length with g | g | g
      · rw [List.getElem?_append_left g] at hk
        rw [pk_un (by omega)]
        exact h.2 k c hk
      · subst g
        rw [List.getElem?_append_right (Nat.le_refl _), Nat.sub_self] at hk
        cases hk
        exact pk_us
      · rw [List.getElem?_append_right (by omega)] at hk
        have : ([b] : List Bd)[k - L.length]? = none := List.getElem?_eq_none (by simp; omega)
        rw [this] at hk
        cases hk
  · rw [if_neg hb, if_neg hb, List.append_nil]
    exact h
theorem legs_isLg (d f s : Nat) : legs d f s = (if isLg d (f, s, 0) then [(f, s, 0)] else []) ++ (if isLg d (f, s, 1) then [(f, s, 1)] else []) := by
  unfold legs isLg
  by_cases h : f &&& s = 0
  · rw [if_pos h]
    simp only [h, decide_true, Bool.true_and]
  · rw [if_neg h]
    simp [h]
theorem legs_le (d f s : Nat) : (legs d f s).length ≤ 2 := by
  rw [legs_isLg, List.length_append]
  split <;> split <;> simp
theorem addS_lst {d l f s : Nat} {st : MS} {L : List Bd} (h : lstT L st) (hl : L.length + 2 < 1000000) : lstT (L ++ legs d f s) (addS d l f s st) := by
  rw [legs_isLg, ← List.append_assoc]
  exact addT_lst (addT_lst h (by omega)) (by rw [List.length_append]; split <;> simp <;> omega)
def LBr (d f n : Nat) : List Bd := (List.range n).flatMap fun s => legs d f s
def LBa (d n : Nat) : List Bd := (List.range n).flatMap fun f => LBr d f 512
theorem LBr_s (d f n : Nat) : LBr d f (n + 1) = LBr d f n ++ legs d f n := by unfold LBr; rw [List.range_succ, List.flatMap_append]; simp
theorem LBa_s (d n : Nat) : LBa d (n + 1) = LBa d n ++ LBr d n 512 := by unfold LBa; rw [List.range_succ, List.flatMap_append]; simp
theorem LBa_512 (d : Nat) : LBa d 512 = LB d := rfl
theorem LBr_le (d f : Nat) : ∀ n m, n ≤ m → (LBr d f n).length ≤ (LBr d f m).length := by
  intro n m h
  induction h with
  | refl => exact Nat.le_refl _
  | step _ ih => rw [LBr_s, List.length_append]; omega
theorem LBa_le (d : Nat) : ∀ n m, n ≤ m → (LBa d n).length ≤ (LBa d m).length := by
  intro n m h
  induction h with
  | refl => exact Nat.le_refl _
  | step _ ih => rw [LBa_s, List.length_append]; omega
theorem LB_part {d f n : Nat} (hf : f < 512) (hn : n ≤ 512) : (LBa d f ++ LBr d f n).length ≤ 18847 := by
  have h1 := LBr_le d f n 512 hn
  have h2 := LBa_le d (f + 1) 512 (by omega)
  rw [LBa_s, List.length_append, LBa_512] at h2
  have h3 := LB_len d
  rw [List.length_append]
  omega
theorem addS_frm (d l f s : Nat) (st : MS) : frm [2, 3] [2] st (addS d l f s st) := (addT_frm d l _ st).trans (addT_frm d l _ _)
theorem addR_frm (d l f : Nat) : ∀ n st, frm [2, 3] [2] st (addR d l f n st)
  | 0, st => frm.refl _ _ _
  | n + 1, st => (addR_frm d l f n st).trans (addS_frm d l f n _)
theorem addA_frm (d l : Nat) : ∀ n st, frm [2, 3] [2] st (addA d l n st)
  | 0, st => frm.refl _ _ _
  | n + 1, st => (addA_frm d l n st).trans (addR_frm d l n 512 _)
theorem addR_lst {d l f : Nat} {st : MS} (hf : f < 512) (h : lstT (LBa d f) st) : ∀ n, n ≤ 512 → lstT (LBa d f ++ LBr d f n) (addR d l f n st)
  | 0, _ => by
    show lstT (LBa d f ++ []) st
    rw [List.append_nil]; exact h
  | n + 1, hn => by
    have hl := LB_part (d := d) hf (show n ≤ 512 by omega)
    rw [LBr_s, ← List.append_assoc]
    exact addS_lst (addR_lst hf h n (by omega)) (by omega)
theorem addA_lst {d l : Nat} {st : MS} (h : lstT [] st) : ∀ n, n ≤ 512 → lstT (LBa d n) (addA d l n st)
  | 0, _ => h
  | n + 1, hn => by
    rw [LBa_s]
    exact addR_lst (by omega) (addA_lst h n (by omega)) 512 (Nat.le_refl _)
/-- rows with more than three men are idle -/
theorem addS_idle {d l f s : Nat} {st : MS} (h : 3 < cnt f) : addS d l f s st = st := by
  have hn : ∀ mv, isLg d (f, s, mv) = false := by
    intro mv
    unfold isLg legal
    have e1 : decide (cnt f = cnt s ∧ cnt f < 3 ∧ mv = 0) = false := decide_eq_false (by omega)
    have e2 : decide (cnt f = cnt s + 1 ∧ cnt f ≤ 3 ∧ mv = 1) = false := decide_eq_false (by omega)
    have e3 : decide (cnt f = 3 ∧ cnt s = 3) = false := decide_eq_false (by omega)
    simp only [e1, e2, e3]
    simp
  unfold addS addT
  rw [hn 0, hn 1]; rfl
theorem addR_idle {d l f : Nat} {st : MS} (h : 3 < cnt f) : ∀ n, addR d l f n st = st
  | 0 => rfl
  | n + 1 => by rw [addR, addR_idle h n, addS_idle h]
