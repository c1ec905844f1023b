/-! isPlain, hasLost, isMove, isLegal -/
theorem fre_bits {me ot t : Nat} (hm : me < 512) (ho : ot < 512) (ht : t < 9) : ((511 &&& (511 ^^^ me)) &&& (511 ^^^ ot)).testBit t = fre me ot t := by
  rw [Nat.testBit_and, Nat.testBit_and, tb511 ht, tb511 ht, show (511 : Nat) = 2 ^ 9 - 1 from rfl, Nat.testBit_two_pow_sub_one, decide_eq_true ht, Bool.true_and]
  rfl
theorem free_eq {me ot : Nat} (hm : me < 512) (ho : ot < 512) : ((511 : Int32) &&& (nI me ^^^ (-1 : Int32))) &&& (nI ot ^^^ (-1 : Int32)) = nI ((511 &&& (511 ^^^ me)) &&& (511 ^^^ ot)) := by
  have e1 := nI_andn (a := 511) (by decide) hm
  have hx : 511 &&& (511 ^^^ me) < 512 := Nat.lt_of_le_of_lt Nat.and_le_left (by decide)
  have e2 := nI_andn hx ho
  rw [← e2, ← e1]; rfl
theorem vcX4_isPlain (x1 x2 x3 : Int32) (st : MS) (hp : pX4_isPlain x1 x2 x3 st) : wX4_isPlain_0 (fun (r : Int32) (u : MS) => qX4_isPlain x1 x2 x3 st r ∧ st = u) x1 x2 x3 st := by
  obtain ⟨d, l, hr, me, ot, q, hm, ho, hq, rfl, rfl, rfl⟩ := hp
  have hd := hr.1
  have fin : ∀ b : Bool, b = plN d me ot q → qX4_isPlain (nI me) (nI ot) (nI q) st (b2 b) ∧ st = st := by
    intro b h
    refine ⟨⟨isB_b2 b, ?_⟩, rfl⟩
    intro d' l' me' ot' q' hr' hm' ho' hq' e1 e2 e3
    obtain ⟨rfl, rfl⟩ := rOK_inj hr hr'
    have := nI5 hm hm' e1
    subst this
    have := nI5 ho ho' e2
    subst this
    have := nI_inj e3
    subst this
    rw [h]
  have f0 : plN d me ot q = false → isB (0 : Int32) ∧ qX4_isPlain (nI me) (nI ot) (nI q) st 0 ∧ st = st := fun h => ⟨Or.inl rfl, fin false h.symm⟩
  have f1 : plN d me ot q = true → isB (1 : Int32) ∧ qX4_isPlain (nI me) (nI ot) (nI q) st 1 ∧ st = st := fun h => ⟨Or.inr rfl, fin true h.symm⟩
  have hF : (511 &&& (511 ^^^ me)) &&& (511 ^^^ ot) < 512 := Nat.lt_of_le_of_lt Nat.and_le_left (Nat.lt_of_le_of_lt Nat.and_le_left (by decide))
  have hc9 := cnt_le me
  obtain ⟨-, g2⟩ := ap_cl q hq
  unfold wX4_isPlain_0
  rw [free_eq hm ho]
  refine ⟨fun h => ?_, fun h => ?_⟩
  · have h9 := g2.mp h
    obtain ⟨s1, s2⟩ := sl_all q hq h9
    have hpl : plN d me ot q = (decide (cnt me = 3) && isSl d me ot q) := if_neg (by omega)
    unfold wX4_isPlain_43
    rw [s1, s2]
    refine ⟨fun h2 => ?_, fun h2 => ?_⟩
    · have : 90 ≤ q := nle_of (show nI 90 ≤ nI q from h2) (by omega) (by omega)
      apply f0
      rw [hpl]
      unfold isSl
      rw [decide_eq_false (show ¬ q < 90 by omega)]
      simp
    · have h90 : q < 90 := nlt_of (show ¬ nI 90 ≤ nI q from h2) (by omega) (by omega)
      intro r1 hr1
      have hr1 := hr1 me hm rfl
      subst hr1
      have hfr : (q - 9) / 9 < 9 := by omega
      have hto : (q - 9) % 9 < 9 := Nat.mod_lt _ (by decide)
      refine ⟨fun h3 => ?_, fun h3 => ⟨fun h4 => ?_, fun h4 => ?_⟩⟩
      · have : ¬ cnt me = 3 := fun z => h3 (by rw [z]; rfl)
        apply f0
        rw [hpl, decide_eq_false this]; rfl
      · have h4 : ¬ me.testBit ((q - 9) / 9) = true := fun z => h4 ((bit_t me hm _ hfr).mpr z)
        rw [Bool.not_eq_true] at h4
        apply f0
        rw [hpl]
        unfold isSl
        rw [h4]
        simp
      · have h4 : me.testBit ((q - 9) / 9) = true := (bit_t me hm _ hfr).mp h4
        have h5 : cnt me = 3 := nI_inj (show nI (cnt me) = nI 3 from h3) (by omega) (by omega)
        have hnx := nxM_lt d hd _ hfr
        have hx : nxM d ((q - 9) / 9) &&& ((511 &&& (511 ^^^ me)) &&& (511 ^^^ ot)) < 512 := Nat.lt_of_le_of_lt Nat.and_le_left hnx
        have hb : (nxM d ((q - 9) / 9) &&& ((511 &&& (511 ^^^ me)) &&& (511 ^^^ ot))).testBit ((q - 9) % 9) = (isNb d ((q - 9) / 9) ((q - 9) % 9) && fre me ot ((q - 9) % 9)) := by
          rw [Nat.testBit_and, fre_bits hm ho hto, nxM_tb d hd _ hfr _ hto]
        have hpl2 : plN d me ot q = (isNb d ((q - 9) / 9) ((q - 9) % 9) && fre me ot ((q - 9) % 9)) := by
          rw [hpl, decide_eq_true h5, Bool.true_and]
          unfold isSl
          rw [decide_eq_true h9, decide_eq_true h90, h4]
          simp [Bool.and_comm]
        have e0 : st.1 0 (nI ((q - 9) / 9)).toNatClampNeg &&& nI ((511 &&& (511 ^^^ me)) &&& (511 ^^^ ot)) = nI (nxM d ((q - 9) / 9) &&& ((511 &&& (511 ^^^ me)) &&& (511 ^^^ ot))) := by
          rw [nI_clamp (by omega), hr.2.2.2.2 _ hfr, nI_and5 (by omega) (by omega)]
        unfold wX4_isPlain_85
        rw [e0]
        refine ⟨vin hfr, fun h6 => ?_, fun h6 => ?_⟩
        · apply f0
          rw [hpl2, ← hb, ← Bool.not_eq_true]
          exact fun z => h6 ((bit_t _ hx _ hto).mpr z)
        · apply f1
          rw [hpl2, ← hb]
          exact (bit_t _ hx _ hto).mp h6
  · have h9 : q < 9 := Nat.lt_of_not_le fun z => h (g2.mpr z)
    have hpl : plN d me ot q = (decide (cnt me < 3) && fre me ot q) := if_pos h9
    intro r1 hr1
    have hr1 := hr1 me hm rfl
    subst hr1
    refine ⟨fun h3 => ?_, fun h3 => ⟨fun h4 => ?_, fun h4 => ?_⟩⟩
    · have : 3 ≤ cnt me := nle_of (show nI 3 ≤ nI (cnt me) from h3) (by omega) (by omega)
      apply f0
      rw [hpl, decide_eq_false (by omega)]; rfl
    all_goals
      have h5 : cnt me < 3 := nlt_of (show ¬ nI 3 ≤ nI (cnt me) from h3) (by omega) (by omega)
    · apply f0
      rw [hpl, decide_eq_true h5, Bool.true_and, ← fre_bits hm ho h9, ← Bool.not_eq_true]
      exact fun z => h4 ((bit_t _ hF _ h9).mpr z)
    · apply f1
      rw [hpl, decide_eq_true h5, Bool.true_and, ← fre_bits hm ho h9]
      exact (bit_t _ hF _ h9).mp h4
theorem vcX4_hasLost (x1 x2 : Int32) (st : MS) (hp : pX4_hasLost x1 x2 st) : wX4_hasLost_0 (fun (r : Int32) (u : MS) => qX4_hasLost x1 x2 st r ∧ st = u) x1 x2 st := by
  obtain ⟨d, l, hr, me, ot, hm, ho, rfl, rfl⟩ := hp
  have fin : ∀ b : Bool, b = loN d l me ot → isB (b2 b) ∧ qX4_hasLost (nI me) (nI ot) st (b2 b) ∧ st = st := by
    intro b h
    refine ⟨isB_b2 b, ?_, rfl⟩
    intro d' l' me' ot' hr' hm' ho' e1 e2
    obtain ⟨rfl, rfl⟩ := rOK_inj hr hr'
    have := nI5 hm hm' e1
    subst this
    have := nI5 ho ho' e2
    subst this
    rw [h]
  refine ⟨⟨d, l, hr, ot, ho, rfl⟩, fun r1 h1 => ?_⟩
  have h1 := h1 d l ot hr ho rfl
  subst h1
  refine ⟨fun h => ?_, fun h => ⟨fun h2 => ?_, fun h2 => ?_⟩⟩
  · refine fin true ?_
    unfold loN
    rw [b2_n0.mp h]; rfl
  · refine fin false ?_
    unfold loN
    rw [b2_0.mp h, Bool.false_or]
    rw [hr.2.2.2.1] at h2
    rw [b2_0.mp h2]; rfl
  · rw [hr.2.2.2.1] at h2
    refine ⟨⟨d, l, hr, me, ot, hm, ho, rfl, rfl⟩, fun r2 h3 => ?_⟩
    have h3 := h3 d l me ot hr hm ho rfl rfl
    subst h3
    refine ⟨fun h4 => fin false ?_, fun h4 => fin true ?_⟩
    · unfold loN
      rw [b2_0.mp h, b2_0.mp h4]; simp
    · unfold loN
      rw [b2_n0.mp h4, b2_n0.mp h2]; simp
