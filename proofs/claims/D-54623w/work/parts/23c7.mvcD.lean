/-! group D: texts carried out -/
theorem rdA_step (P : List Nat) (n i : Nat) : rdA P (n + 1) i = if (rdO P i).1 then (if (rdO P i).2.1 < P.length then (if chP P (rdO P i).2.1 = 59 then ((rdA P n ((rdO P i).2.1 + 1)).1, (rdA P n ((rdO P i).2.1 + 1)).2.1, (rdO P i).2.2 :: (rdA P n ((rdO P i).2.1 + 1)).2.2) else (false, (rdO P i).2.1, [(rdO P i).2.2])) else (true, (rdO P i).2.1, [(rdO P i).2.2])) else (false, (rdO P i).2.1, []) := by
  conv => lhs; unfold rdA
theorem vcX3_isWell (st : MS) (hp : pX3_isWell st) : wX3_isWell_0 (qX3_isWell st) st := by
  obtain ⟨P, hP⟩ := hp
  have h80 := hP.1
  have fin : ∀ (fl : Bool) (j : Nat) (s2 : MS), frm [] [2] st s2 → atOK s2 j → fl = (rdA P 81 0).1 → j = (rdA P 81 0).2.1 → wX3_isWell_82 (qX3_isWell st) (b2 fl) s2 := by
    intro fl j s2 hf ha e1 e2
    refine ⟨isB_b2 fl, hf, fun P' hP' => ?_⟩
    obtain rfl := padOK_inj hP hP'
    rw [← e1, ← e2]
    exact ⟨rfl, ha⟩
  have loop : ∀ (fl : Bool) (j : Nat) (s2 : MS), frm [] [2] st s2 → atOK s2 j → j ≤ 100 → ((fl = false ∧ (rdA P 81 0).1 = false ∧ (rdA P 81 0).2.1 = j) ∨ ∃ n i, i ≤ 80 ∧ 81 ≤ n + 1 + i ∧ (rdA P 81 0).1 = (rdA P (n + 1) i).1 ∧ (rdA P 81 0).2.1 = (rdA P (n + 1) i).2.1 ∧ fl = (rdO P i).1 ∧ j = (rdO P i).2.1) → wX3_isWell_19 (qX3_isWell st) (b2 fl) s2 := by
    intro fl j s2 hf ha hj hinv
    unfold wX3_isWell_19
    refine ⟨fun m v => ∃ (fl : Bool) (j : Nat) (s2 : MS), v = (b2 fl, s2) ∧ frm [] [2] st s2 ∧ atOK s2 j ∧ j ≤ 100 ∧ (m = if fl then 200 - j else 0) ∧ ((fl = false ∧ (rdA P 81 0).1 = false ∧ (rdA P 81 0).2.1 = j) ∨ ∃ n i, i ≤ 80 ∧ 81 ≤ n + 1 + i ∧ (rdA P 81 0).1 = (rdA P (n + 1) i).1 ∧ (rdA P 81 0).2.1 = (rdA P (n + 1) i).2.1 ∧ fl = (rdO P i).1 ∧ j = (rdO P i).2.1), _, ⟨fl, j, s2, rfl, hf, ha, hj, rfl, hinv⟩, ?_⟩
    clear hinv hf ha hj
    rintro m v ⟨fl, j, s2, rfl, hf, ha, hj, hm, hinv⟩
    dsimp only
    have hP2 : padOK s2 P := padOK_frm hf (by simp) (by simp) hP
    unfold wX3_isWell_19_b wX3_isWell_23
    refine ⟨fun h1 => ?_, fun h1 => ?_⟩
    · have hfl := b2_0.mp h1
      rcases hinv with ⟨-, e1, e2⟩ | ⟨n, i, hi, hn, e1, e2, e3, e4⟩
      · exact fin fl j s2 hf ha (by rw [hfl, e1]) e2.symm
      · rw [hfl] at e3
        have : rdA P (n + 1) i = (false, (rdO P i).2.1, []) := by rw [rdA_step, ← e3]; rfl
        rw [this] at e1 e2
        exact fin fl j s2 hf ha (by rw [hfl, e1]) (by rw [e2, e4])
    · have hfl := b2_n0.mp h1
      rcases hinv with ⟨e0, -, -⟩ | ⟨n, i, hi, hn, e1, e2, e3, e4⟩
      · rw [e0] at hfl; cases hfl
      rw [hfl] at e3
      have hle := rdO_le P i
      rw [hP2.2.1, ha.1]
      refine ⟨fun h2 => ?_, fun h2 => ?_⟩
      · have hjl : P.length ≤ j := nle_of h2
        have : rdA P (n + 1) i = (true, (rdO P i).2.1, [(rdO P i).2.2]) := by rw [rdA_step, ← e3, if_pos rfl, if_neg (by omega)]
        rw [this] at e1 e2
        exact fin fl j s2 hf ha (by rw [hfl, e1]) (by rw [e2, e4])
      · have hjl : j < P.length := nlt_of h2
        unfold wX3_isWell_34
        refine ⟨⟨P, j, hP2, ha⟩, fun r3 h3 => ?_⟩
        have e5 := h3 P j hP2 ha
        have e5' : r3 = b2 (decide (chP P j = 59)) := by
          rw [e5]
          congr 1
          rw [show (59 : Int32).toInt = 59 from rfl, decide_eq_decide]
          omega
        subst e5'
        rw [ha.1]
        unfold wX3_isWell_56 wX3_isWell_52 wX3_isWell_57
        refine ⟨fun h6 => ⟨fun _ => ?_, fun h7 => absurd h6 h7⟩, fun h6 => ⟨fun h7 => absurd h7 h6, fun _ => ?_⟩⟩
        · -- no semicolon
          have h7 := of_decide_eq_false (b2_0.mp h6)
          have : rdA P (n + 1) i = (false, (rdO P i).2.1, [(rdO P i).2.2]) := by rw [rdA_step, ← e3, if_pos rfl, if_pos (by omega), if_neg (by rw [← e4]; exact h7)]
          rw [this] at e1 e2
          unfold wX3_isWell_77 wX3_isWell_78
          refine ⟨0, ?_, false, j, _, rfl, frm_F hf (by simp), ?_, hj, rfl, Or.inl ⟨rfl, e1, by rw [e2, e4]⟩⟩
          · rw [hm, hfl]; simp; omega
          · rw [show (0 : Int32) = nI 0 from rfl, nI_add, Nat.add_zero]
            exact atOK_set ha.2
        · have h7 := of_decide_eq_true (b2_n0.mp h6)
          have hn0 : n ≠ 0 := by omega
          obtain ⟨n', rfl⟩ : ∃ n', n = n' + 1 := ⟨n - 1, by omega⟩
          have hst : rdA P (n' + 1 + 1) i = ((rdA P (n' + 1) (j + 1)).1, (rdA P (n' + 1) (j + 1)).2.1, (rdO P i).2.2 :: (rdA P (n' + 1) (j + 1)).2.2) := by rw [rdA_step, ← e3, if_pos rfl, if_pos (by omega), if_pos (by rw [← e4]; exact h7), ← e4]
          rw [hst] at e1 e2
          unfold wX3_isWell_65 wX3_isWell_77 wX3_isWell_73 wX3_isWell_78
          rw [nI_1]
          have f3 : frm [] [2] st (mF s2 2 (nI (j + 1))) := frm_F hf (by simp)
          have hP3 : padOK (mF s2 2 (nI (j + 1))) P := padOK_frm f3 (by simp) (by simp) hP
          have a3 : atOK (mF s2 2 (nI (j + 1))) (j + 1) := atOK_set (by omega)
          have hle2 := rdO_le P (j + 1)
          refine ⟨⟨⟨P, j + 1, hP3, a3, by omega⟩, Or.inl rfl, Or.inl rfl⟩, fun r8 s8 h8 => ?_⟩
          obtain ⟨ha8, hbad, hgood⟩ := h8.2 P (j + 1) hP3 a3 (by omega)
          have go : ∀ fl2 : Bool, fl2 = (rdO P (j + 1)).1 → frm [] [2] st s8 → ∃ n2, n2 < m ∧ ∃ (fl : Bool) (j : Nat) (s2 : MS), (b2 fl2, s8) = (b2 fl, s2) ∧ frm [] [2] st s2 ∧ atOK s2 j ∧ j ≤ 100 ∧ (n2 = if fl then 200 - j else 0) ∧ ((fl = false ∧ (rdA P 81 0).1 = false ∧ (rdA P 81 0).2.1 = j) ∨ ∃ n i, i ≤ 80 ∧ 81 ≤ n + 1 + i ∧ (rdA P 81 0).1 = (rdA P (n + 1) i).1 ∧ (rdA P 81 0).2.1 = (rdA P (n + 1) i).2.1 ∧ fl = (rdO P i).1 ∧ j = (rdO P i).2.1) := by
            intro fl2 e8 hf8
            refine ⟨_, ?_, fl2, (rdO P (j + 1)).2.1, s8, rfl, hf8, ha8, by omega, rfl, Or.inr ⟨n', j + 1, by omega, by omega, e1, e2, e8, rfl⟩⟩
            rw [hm, hfl]
            simp only [if_true]
            split <;> omega
          cases hok : (rdO P (j + 1)).1 with
          | false =>
            obtain ⟨er, hf8⟩ := hbad hok
            subst er
            exact ⟨fun _ => go false hok.symm (f3.trans hf8), fun h9 => absurd h9 (by decide)⟩
          | true =>
            obtain ⟨er, hf8⟩ := (hgood hok).1 rfl
            subst er
            exact ⟨fun h9 => absurd rfl h9, fun _ => go true hok.symm (f3.trans hf8)⟩
  unfold wX3_isWell_0 wX3_isWell_17 wX3_isWell_13 wX3_isWell_18
  have f0 : frm [] [2] st (mF st 2 (0 : Int32)) := frm_F (frm.refl _ _ _) (by simp)
  have hP0 : padOK (mF st 2 (0 : Int32)) P := padOK_frm f0 (by simp) (by simp) hP
  have a0 : atOK (mF st 2 (0 : Int32)) 0 := ⟨mF_self _ _ _, by decide⟩
  have hle := rdO_le P 0
  refine ⟨⟨⟨P, 0, hP0, a0, by decide⟩, Or.inl rfl, Or.inl rfl⟩, fun r s1 h1 => ?_⟩
  obtain ⟨ha, hbad, hgood⟩ := h1.2 P 0 hP0 a0 (by decide)
  have inv : ∀ fl : Bool, fl = (rdO P 0).1 → ((fl = false ∧ (rdA P 81 0).1 = false ∧ (rdA P 81 0).2.1 = (rdO P 0).2.1) ∨ ∃ n i, i ≤ 80 ∧ 81 ≤ n + 1 + i ∧ (rdA P 81 0).1 = (rdA P (n + 1) i).1 ∧ (rdA P 81 0).2.1 = (rdA P (n + 1) i).2.1 ∧ fl = (rdO P i).1 ∧ (rdO P 0).2.1 = (rdO P i).2.1) := fun fl e => Or.inr ⟨80, 0, by decide, by decide, rfl, rfl, e, rfl⟩
  cases hok : (rdO P 0).1 with
  | false =>
    obtain ⟨er, hf⟩ := hbad hok
    subst er
    exact ⟨fun _ => loop false _ s1 (f0.trans hf) ha (by omega) (inv false hok.symm), fun h9 => absurd h9 (by decide)⟩
  | true =>
    obtain ⟨er, hf⟩ := (hgood hok).1 rfl
    subst er
    exact ⟨fun h9 => absurd rfl h9, fun _ => loop true _ s1 (f0.trans hf) ha (by omega) (inv true hok.symm)⟩
theorem vcX3_fault (S : SS) (st : MS) (h : mOK st S) : wX3_fault_0 (fun r st1 => r = sFault S ∧ mOK st1 S) st := by
  unfold wX3_fault_0 wX3_fault_12 wX3_fault_7 wX3_fault_16
  refine ⟨⟨_, h.2.2.2.2⟩, fun r1 st2 h1 => ?_⟩
  obtain ⟨e1, ha⟩ := h1.2 _ h.2.2.2.2
  subst e1
  have hm : mOK st2 S := mOK_frm h1.1 (by simp) (by simp) h
  unfold sFault
  refine ⟨fun h2 => ⟨?_, hm⟩, fun h2 => ⟨?_, hm⟩⟩
  · rw [b2_0.mp h2, ha.1]; rfl
  · rw [b2_n0.mp h2]; rfl
theorem doO_len (o : Od) (g : Gm) (ho : o.2.1 ≤ 9) : (doO o g).2.2.2.length ≤ g.2.2.length + 9 := by
  have hmv : ∀ x pl, (mvsG x pl g).2.2.2.length ≤ g.2.2.length + 9 := by
    intro x pl
    unfold mvsG
    split
    · exact Nat.le_add_right _ _
    · simp [goG]
  unfold doO
  split
  · unfold placesG
    split
    · exact hmv _ _
    · exact Nat.le_add_right _ _
  · split
    · unfold slidesG
      split
      · exact hmv _ _
      · exact Nat.le_add_right _ _
    · split
      · exact hmv _ _
      · unfold playsG
        split
        · split
          · exact Nat.le_add_right _ _
          · have e : (nI o.2.1).toInt.toNat = o.2.1 := by rw [iI_nI, iI_toInt (by omega) (by omega)]; omega
            have h2 := play_le g (nI o.2.1).toInt.toNat
            have h3 := play_len g (nI o.2.1).toInt.toNat
            dsimp only
            omega
        · exact Nat.le_add_right _ _
theorem rdO_arg (P : List Nat) (i : Nat) : (rdO P i).2.2.2.1 ≤ 9 := by
  unfold rdO
  repeat' split
  all_goals (dsimp only)
  all_goals (try omega)
  all_goals (rename_i h1; first | (have := of_decide_eq_true h1; omega) | (rename_i h0; have := of_decide_eq_true h0; omega) | (rename_i h0; rename_i h00; have := of_decide_eq_true h0; omega))
