/-! VC of MorrisTables, A -/
theorem oft_lt {k : Gm} (h : k.2.2.length < 1000000) : oftG k < 1000000 := Nat.lt_of_le_of_lt List.countP_le_length h
theorem nI_lt3 {n : Nat} (h : n < 1000000) : nI n < (3 : Int32) ↔ n < 3 := by
  rw [Int32.lt_iff_toInt_lt, iI_nI, iI_toInt (by omega) (by omega)]
  show (n : Int) < 3 ↔ _
  omega
theorem vcX0_hasLost {S : CS}  (hS : cOk S) : wX0_hasLost_0 (true, pS S, 0, 0) (fun r S' => r = b2 (lostG S.1.2) ∧ S' = S)  S false 0 0 := by
  unfold wX0_hasLost_0
  exact ⟨⟨hS, rfl, rfl⟩, hS.1, hS.1, hS.1, isB_b2 _, ⟨rfl, rfl⟩, rfl⟩
theorem vcX0_isOver {S : CS}  (hS : cOk S) : wX0_isOver_0 (true, pS S, 0, 0) (fun r S' => r = b2 (overG S.1.2) ∧ S' = S)  S false 0 0 := by
  unfold wX0_isOver_0 wX0_isOver_18 wX0_isOver_7 wX0_isOver_18 wX0_isOver_22 wX0_isOver_23
  refine ⟨⟨hS, rfl, rfl⟩, fun h => ⟨Or.inr rfl, ⟨?_, rfl⟩, rfl⟩, fun h => ⟨⟨hS.1.1, hS.2⟩, fun h2 => ⟨Or.inl rfl, ⟨?_, rfl⟩, rfl⟩, fun h2 => ⟨Or.inr rfl, ⟨?_, rfl⟩, rfl⟩⟩⟩
  · rw [b2_n0] at h
    unfold overG
    rw [h]; rfl
  · rw [b2_0] at h
    rw [nI_lt3 (oft_lt hS.2)] at h2
    unfold overG
    rw [h, decide_eq_false (by omega)]; rfl
  · rw [nI_lt3 (oft_lt hS.2)] at h2
    unfold overG
    rw [decide_eq_true (show 3 ≤ oftG S.1.2 by omega), Bool.or_true]; rfl
theorem vcX0_isDrawn {S : CS}  (hS : cOk S) : wX0_isDrawn_0 (true, pS S, 0, 0) (fun r S' => r = b2 (decide (3 ≤ oftG S.1.2) && !lostG S.1.2) ∧ S' = S)  S false 0 0 := by
  unfold wX0_isDrawn_0 wX0_isDrawn_7 wX0_isDrawn_18 wX0_isDrawn_22 wX0_isDrawn_23
  refine ⟨⟨hS, rfl, rfl⟩, fun h => ⟨Or.inl rfl, ⟨?_, rfl⟩, rfl⟩, fun h => ⟨⟨hS.1.1, hS.2⟩, fun h2 => ⟨Or.inl rfl, ⟨?_, rfl⟩, rfl⟩, fun h2 => ⟨Or.inr rfl, ⟨?_, rfl⟩, rfl⟩⟩⟩
  · rw [b2_n0] at h
    rw [h, Bool.not_true, Bool.and_false]; rfl
  · rw [nI_lt3 (oft_lt hS.2)] at h2
    rw [decide_eq_false (show ¬ 3 ≤ oftG S.1.2 by omega)]; rfl
  · rw [b2_0] at h
    rw [nI_lt3 (oft_lt hS.2)] at h2
    rw [h, decide_eq_true (show 3 ≤ oftG S.1.2 by omega)]; rfl
theorem vcX0_isMove {S : CS} (x1 : Int32) (hS : cOk S) : wX0_isMove_0 (true, pS S, 0, 0) (fun r S' => r = b2 (!overG S.1.2 && isMvX S.1.2 x1) ∧ S' = S) x1 S false 0 0 := by
  unfold wX0_isMove_0 wX0_isMove_7 wX0_isMove_26 wX0_isMove_30 wX0_isMove_31
  refine ⟨⟨hS, rfl, rfl⟩, fun h => ⟨Or.inl rfl, ⟨?_, rfl⟩, rfl⟩, fun h => ⟨⟨hS, rfl, rfl⟩, hS.1, hS.1, hS.1, fun h2 => ⟨Or.inl rfl, ⟨?_, rfl⟩, rfl⟩, fun h2 => ⟨Or.inr rfl, ⟨?_, rfl⟩, rfl⟩⟩⟩
  · rw [b2_n0] at h
    rw [h]; rfl
  · rw [b2_0] at h2
    rw [h2, Bool.and_false]; rfl
  · rw [b2_0] at h
    rw [b2_n0] at h2
    rw [h, h2]; rfl
theorem LB_cur {k : Gm} (h : gok k) : cur k ∈ LB k.1 := LB_mem.mpr (cur_ok h)
theorem vcX0_worthNow {S : CS}  (hS : cOk S) : wX0_worthNow_0 (true, pS S, 0, 0) (fun r S' => r = iI (wG S.1.2) ∧ S' = S)  S false 0 0 := by
  unfold wX0_worthNow_0
  exact ⟨⟨hS, rfl, rfl⟩, cur S.1.2, ⟨hS.1, LB_cur hS.1.1, rfl, rfl, rfl⟩, ⟨rfl, rfl⟩, rfl⟩
theorem vcX0_behindNow {S : CS} (x1 : Int32) (hS : cOk S) (ho : ∃ q ∈ mvC S.1.2, x1 = nI q) : wX0_behindNow_0 (true, pS S, 0, 0) (fun r S' => r = iI (wB S.1.2 x1.toNatClampNeg) ∧ S' = S) x1 S false 0 0 := by
  obtain ⟨q, hq, e⟩ := ho
  unfold wX0_behindNow_0
  refine ⟨⟨hS, rfl, rfl⟩, q, ⟨hS.1, hq, rfl, rfl, rfl, e⟩, ⟨?_, rfl⟩, rfl⟩
  rw [e, nI_clamp (by have := mvC_lt hq; omega)]
theorem vcX0_begun {S : CS} (x1 : Int32) (x2 : Int32) (hS : cOk S) : wX0_begun_0 (false, pS S, (bgC x1 x2 S), (bgS x1 x2 S)) (fun r S' => r = x1 ∧ ((x1 = 0 ∧ x2 ≠ 0 ∧ ∃ (u : Nat → Nat) (b : Nat) (mo : Int32), S' = recX S u b mo) ∨ (¬ (x1 = 0 ∧ x2 ≠ 0) ∧ S' = S))) x1 x2 S false 0 0 := by
  unfold wX0_begun_0 wX0_begun_4 wX0_begun_8 wX0_begun_12
  refine ⟨fun h => ⟨⟨rfl, Or.inr ⟨fun z => h z.1, rfl⟩⟩, rfl⟩, fun h => ⟨fun h2 => ⟨⟨rfl, Or.inr ⟨fun z => z.2 h2, rfl⟩⟩, rfl⟩, fun h2 => ⟨hS.1, ?_, fun S2 hq => ⟨⟨rfl, Or.inl ⟨h, h2, hq⟩⟩, rfl⟩⟩⟩⟩
  show 0 + rcC S ≤ bgC x1 x2 S ∧ 0 + rcS S ≤ bgS x1 x2 S
  unfold bgC bgS
  rw [if_pos ⟨h, h2⟩, if_pos ⟨h, h2⟩]
  omega
