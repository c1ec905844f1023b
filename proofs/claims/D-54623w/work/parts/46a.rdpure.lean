/-! READER: the pure reading, step by step -/
def rdT (P : List Nat) (n sp : Nat) : Bool × Nat × List Od := if sp < P.length then (if chP P sp = 59 then rdA P n (sp + 1) else (false, sp, [])) else (true, sp, [])
theorem rdA_s (P : List Nat) (n i : Nat) : rdA P (n + 1) i = if (rdO P i).1 = true then ((rdT P n (rdO P i).2.1).1, (rdT P n (rdO P i).2.1).2.1, (rdO P i).2.2 :: (rdT P n (rdO P i).2.1).2.2) else (false, (rdO P i).2.1, []) := by
  unfold rdA rdT
  split
  · split
    · split <;> rfl
    · rfl
  · rfl
theorem rd_no {P : List Nat} {i : Nat} (h : isOrd (chP P i) = false) : rdO P i = (false, i, (0, 0, 0)) := by
  have := of_decide_eq_false h
  unfold rdO
  rw [if_neg (by omega), if_neg (by omega), if_neg (by omega), if_neg (by omega)]
theorem rd_ord {P : List Nat} {i : Nat} (h : isOrd (chP P i) = true) : (rdO P i).1 = (ordR P (chP P i) (i + 1)).1 ∧ (rdO P i).2.1 = (ordR P (chP P i) (i + 1)).2.1 ∧ ((ordR P (chP P i) (i + 1)).1 = true → (rdO P i).2.2 = (ordR P (chP P i) (i + 1)).2.2) := by
  unfold rdO ordR
  rcases of_decide_eq_true h with e | e | e | e
  · simp only [e, if_true]
    split <;> simp
  · simp only [e]
    simp only [show ¬ (115 = 112) by decide, if_false, if_true]
    split
    · split <;> simp
    · simp
  · simp only [e]
    simp
  · simp only [e]
    simp only [show ¬ (109 = 112) by decide, show ¬ (109 = 115) by decide, show ¬ (109 = 45) by decide, if_false, if_true]
    split <;> simp
theorem ord_in {P : List Nat} {i : Nat} (h : isOrd (chP P i) = true) : i < P.length := ch_in (fun z => by
  rw [z] at h
  exact absurd h (by decide))
theorem ordR_rng {P : List Nat} {sp z : Nat} (h : sp ≤ P.length) : sp ≤ (ordR P z sp).2.1 ∧ (ordR P z sp).2.1 ≤ P.length := by
  have d1 : ∀ i, dg1 (chP P i) = true → i < P.length := fun i hi => dg_in hi
  have d0 : ∀ i, dg0 (chP P i) = true → i < P.length := fun i hi => ch_in (fun z => by rw [z] at hi; exact absurd hi (by decide))
  unfold ordR
  split
  · split
    · rename_i hd
      have := d1 _ hd
      exact ⟨by show sp ≤ sp + 1; omega, by show sp + 1 ≤ _; omega⟩
    · exact ⟨Nat.le_refl _, h⟩
  · split
    · split
      · rename_i hd
        have := d1 _ hd
        split
        · rename_i hd2
          have := d1 _ hd2
          exact ⟨by show sp ≤ sp + 1 + 1; omega, by show sp + 1 + 1 ≤ _; omega⟩
        · exact ⟨by show sp ≤ sp + 1; omega, by show sp + 1 ≤ _; omega⟩
      · exact ⟨Nat.le_refl _, h⟩
    · split
      · split
        · rename_i hd
          have := d0 _ hd
          exact ⟨by show sp ≤ sp + 1; omega, by show sp + 1 ≤ _; omega⟩
        · exact ⟨Nat.le_refl _, h⟩
      · exact ⟨Nat.le_refl _, h⟩
def grN (k : Nat) : Nat := if k = 0 then 0 else if k ≤ 10 then 1 else if k ≤ 15 then 2 else if k ≤ 22 then 3 else if k ≤ 33 then 4 else 5
def alN (k : Nat) : Nat := if k = 0 then 0 else if k ≤ 10 then 10 else if k ≤ 15 then 25 else if k ≤ 22 then 47 else if k ≤ 33 then 80 else 129
theorem gro_ok (k : Nat) (h : k ≤ 45) : grN (k + 1) = grN k + celN k ∧ alN (k + 1) = alN k + sloN k ∧ grN (k + 1) ≤ 5 ∧ alN (k + 1) ≤ 129 := by
  have key : ∀ k, k < 46 → grN (k + 1) = grN k + celN k ∧ alN (k + 1) = alN k + sloN k ∧ grN (k + 1) ≤ 5 ∧ alN (k + 1) ≤ 129 := by decide
  exact key k (by omega)
/-- the orders' list, its array, how often it changed; the spot; whether something is wrong; the orders -/
abbrev US : Type := Nat × Nat × Int32 × Nat × Bool × List (Nat × Od)
def rdPost (P : List Nat) (u : US) : Prop := u.2.2.2.2.1 = !(rdA P 81 0).1 ∧ u.2.2.2.1 = (rdA P 81 0).2.1 ∧ ((rdA P 81 0).1 = true → u.2.2.2.2.2.map Prod.snd = (rdA P 81 0).2.2) ∧ u.2.2.2.2.2.length ≤ 41
theorem rp_wr {P : List Nat} {n sp sp' : Nat} {b k3 : Nat} {mo : Int32} {os : List (Nat × Od)} (hR : rdA P 81 0 = ((rdT P n sp').1, (rdT P n sp').2.1, os.map Prod.snd ++ (rdT P n sp').2.2)) (h : rdT P n sp' = (false, sp, [])) (hk : os.length ≤ 41) : rdPost P (b, k3, mo, sp, true, os) := by
  rw [h] at hR
  unfold rdPost
  rw [hR]
  exact ⟨rfl, rfl, fun z => (by cases z), hk⟩
theorem rp_wr2 {P : List Nat} {n sp sp' : Nat} {b k3 : Nat} {mo : Int32} {os os' : List (Nat × Od)} (hR : rdA P 81 0 = ((rdT P n sp').1, (rdT P n sp').2.1, os.map Prod.snd ++ (rdT P n sp').2.2)) (h : rdT P n sp' = (false, sp, [])) (hk : os'.length ≤ 41) : rdPost P (b, k3, mo, sp, true, os') := by
  rw [h] at hR
  unfold rdPost
  rw [hR]
  exact ⟨rfl, rfl, fun z => (by cases z), hk⟩
theorem rp_wr0 {P : List Nat} {sp : Nat} {b k3 : Nat} {mo : Int32} (h : rdA P (80 + 1) 0 = (false, sp, [])) : rdPost P (b, k3, mo, sp, true, []) := by
  have h : rdA P 81 0 = (false, sp, []) := h
  unfold rdPost
  rw [h]
  exact ⟨rfl, rfl, fun z => (by cases z), Nat.zero_le _⟩
theorem rp_wr3 {P : List Nat} {sp : Nat} {b k3 : Nat} {mo : Int32} {x : Nat × Od} (h : rdA P (80 + 1) 0 = (false, sp, [])) : rdPost P (b, k3, mo, sp, true, [] ++ [x]) := by
  have h : rdA P 81 0 = (false, sp, []) := h
  unfold rdPost
  rw [h]
  exact ⟨rfl, rfl, fun z => (by cases z), by show 1 ≤ 41; decide⟩
theorem rp_ok {P : List Nat} {n sp sp' : Nat} {b k3 : Nat} {mo : Int32} {os : List (Nat × Od)} (hR : rdA P 81 0 = ((rdT P n sp').1, (rdT P n sp').2.1, os.map Prod.snd ++ (rdT P n sp').2.2)) (h : rdT P n sp' = (true, sp, [])) (hk : os.length ≤ 41) : rdPost P (b, k3, mo, sp, false, os) := by
  rw [h] at hR
  unfold rdPost
  rw [hR]
  exact ⟨rfl, rfl, fun _ => (List.append_nil _).symm, hk⟩
