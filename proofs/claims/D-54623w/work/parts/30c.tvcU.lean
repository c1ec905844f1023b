theorem is3_inj {b b' : Bd} {x1 x2 x3 : Int32} (h : is3 b x1 x2 x3) (h' : is3 b' x1 x2 x3) : b = b' := by
  obtain ⟨h0, h1, h2, h3, h4, h5⟩ := h
  obtain ⟨g0, g1, g2, g3, g4, g5⟩ := h'
  have e1 := nI5 h0 g0 (h3.symm.trans g3)
  have e2 := nI5 h1 g1 (h4.symm.trans g4)
  have e3 := nI_inj (h5.symm.trans g5) (by omega) (by omega)
  exact Prod.ext e1 (Prod.ext e2 e3)
theorem pk_nat {b : Bd} (h1 : b.1 < 512) (h2 : b.2.1 < 512) (h3 : b.2.2 < 2) : (nI b.1 ||| (nI b.2.1 <<< ((9 : Int32) &&& 31))) ||| (nI b.2.2 <<< ((18 : Int32) &&& 31)) = nI (pkB b) := by
  rw [pk_shlN _ 9 (by decide) (by omega), pk_shlN _ 18 (by decide) (by omega), nI_or5 (by omega) (by omega)]
  have e1 : b.1 ||| b.2.1 * 2 ^ 9 = 2 ^ 9 * b.2.1 + b.1 := by
    rw [Nat.two_pow_add_eq_or_of_lt h1, Nat.mul_comm, Nat.or_comm]
  have h5 : 2 ^ 9 * b.2.1 + b.1 < 2 ^ 18 := by omega
  rw [e1, nI_or5 (by omega) (by omega)]
  have e2 : (2 ^ 9 * b.2.1 + b.1) ||| b.2.2 * 2 ^ 18 = 2 ^ 18 * b.2.2 + (2 ^ 9 * b.2.1 + b.1) := by
    rw [Nat.two_pow_add_eq_or_of_lt h5, Nat.mul_comm b.2.2, Nat.or_comm]
  rw [e2]
  congr 1
  unfold pkB
  omega
theorem rOK_frm {d l : Nat} {st st1 : MS} (h : frm [2, 3] [2] st st1) (hr : rOK d l st) : rOK d l st1 := by
  obtain ⟨h1, h2, h3, h4, h5⟩ := hr
  exact ⟨h1, h2, by rw [h.2 0 (by decide)]; exact h3, by rw [h.2 1 (by decide)]; exact h4, fun p hp => by rw [h.1 0 (by decide)]; exact h5 p hp⟩
theorem cOK_frm {st st1 : MS} (h : frm [2, 3] [2] st st1) (hc : cOK st) : cOK st1 := fun m hm => by rw [h.1 1 (by decide)]; exact hc m hm
theorem addT_frm (d l : Nat) (b : Bd) (st : MS) : frm [2, 3] [2] st (addT d l b st) := by
  unfold addT
  split
  · exact frm_A (frm_F (frm_A (frm.refl _ _ _) (by decide)) (by decide)) (by decide)
  · exact frm.refl _ _ _
theorem vcX5_add (x1 x2 x3 : Int32) (st : MS) (hp : pX5_add x1 x2 x3 st) : wX5_add_0 (qX5_add x1 x2 x3 st) x1 x2 x3 st := by
  obtain ⟨hc, ⟨d, l, hr⟩, ⟨n, hn, hmn⟩, b, hb⟩ := hp
  have hb0 := hb
  obtain ⟨l1, l2, l3, rfl, rfl, rfl⟩ := hb0
  have fin : ∀ st1, st1 = addT d l b st → qX5_add (nI b.1) (nI b.2.1) (nI b.2.2) st st1 := by
    intro st1 h d' l' b' hr' hb'
    obtain ⟨rfl, rfl⟩ := rOK_inj hr hr'
    have := is3_inj hb hb'
    subst this
    exact h
  refine ⟨⟨d, l, hr, b.1, b.2.1, b.2.2, l1, l2, l3, rfl, rfl, rfl⟩, fun r1 h1 => ?_⟩
  have h1 := h1 d l b.1 b.2.1 b.2.2 hr l1 l2 l3 rfl rfl rfl
  subst h1
  refine ⟨fun h => ?_, fun h => ?_⟩
  · have hlg : isLg d b = true := b2_n0.mp h
    have hlg2 := hlg
    unfold isLg at hlg2
    rw [Bool.and_eq_true, decide_eq_true_eq] at hlg2
    have hok : bokB b := ⟨l1, l2, hlg2.1, l3⟩
    have hix := ixB_lt hok
    unfold wX5_add_11
    rw [pk_nat l1 l2 l3]
    have hv : vp_in (st.2 2) 19683 := by rw [hmn]; exact vin hn
    refine ⟨hv, ?_⟩
    have hF : frm [2, 3] [2] st (mF (mA st 3 (st.2 2).toNatClampNeg (nI (pkB b))) 2 ((mA st 3 (st.2 2).toNatClampNeg (nI (pkB b))).2 2 + 1)) := frm_F (frm_A (frm.refl _ _ _) (by decide)) (by decide)
    have hadd : addT d l b st = mA (mF (mA st 3 (st.2 2).toNatClampNeg (nI (pkB b))) 2 ((mA st 3 (st.2 2).toNatClampNeg (nI (pkB b))).2 2 + 1)) 2 (ixB b) (-b2 (loN d l (meB b) (otB b))) := if_pos hlg
    generalize mF (mA st 3 (st.2 2).toNatClampNeg (nI (pkB b))) 2 ((mA st 3 (st.2 2).toNatClampNeg (nI (pkB b))).2 2 + 1) = st1 at hF hadd
    have hr1 := rOK_frm hF hr
    have hc1 := cOK_frm hF hc
    have h60 : ∀ r : Int32, r = b2 (loN d l (meB b) (otB b)) → wX5_add_60 (qX5_add (nI b.1) (nI b.2.1) (nI b.2.2) st) (nI b.1) (nI b.2.1) (nI b.2.2) r st1 := by
      intro r e
      subst e
      have hbd : isBd b (nI b.1) (nI b.2.1) (nI b.2.2) := ⟨hok, rfl, rfl, rfl⟩
      refine ⟨⟨hc1, b, hbd⟩, fun r2 h2 => ?_⟩
      have h2 := h2 b hbd
      subst h2
      have hcl : (nI (ixB b)).toNatClampNeg = ixB b := nI_clamp (by omega)
      refine ⟨fun h3 => ⟨vin hix, fin _ ?_⟩, fun h3 => ⟨vin hix, fin _ ?_⟩⟩
      · rw [hadd, hcl, b2_0.mp h3]; rfl
      · rw [hadd, hcl, b2_n0.mp h3]; rfl
    refine ⟨fun h3 => ?_, fun h3 => ?_⟩
    · have hm : b.2.2 = 1 := by
        have : ¬ b.2.2 = 0 := fun z => h3 (by rw [z]; rfl)
        omega
      have em : meB b = b.2.1 := by unfold meB sid; rw [if_neg (by omega)]
      have eo : otB b = b.1 := by unfold otB sid; rw [if_pos (by omega)]
      refine ⟨⟨d, l, hr1, b.2.1, b.1, l2, l1, rfl, rfl⟩, fun r2 h2 => h60 _ ?_⟩
      rw [em, eo]
      exact h2 d l b.2.1 b.1 hr1 l2 l1 rfl rfl
    · have hm : b.2.2 = 0 := nI_inj (show nI b.2.2 = nI 0 from h3) (by omega) (by omega)
      have em : meB b = b.1 := by unfold meB sid; rw [if_pos hm]
      have eo : otB b = b.2.1 := by unfold otB sid; rw [if_neg (by omega)]
      refine ⟨⟨d, l, hr1, b.1, b.2.1, l1, l2, rfl, rfl⟩, fun r2 h2 => h60 _ ?_⟩
      rw [em, eo]
      exact h2 d l b.1 b.2.1 hr1 l1 l2 rfl rfl
  · have hlg : isLg d b = false := b2_0.mp h
    exact fin _ (by unfold addT; rw [hlg]; rfl)
