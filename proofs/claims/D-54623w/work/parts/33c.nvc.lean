/-! nextOf -/
theorem vcX4_nextOf (x1 n : Int32) (hp : pX4_nextOf x1 n) : wX4_nextOf_0 n (fun (r : Int32) (_ : Unit) => qX4_nextOf x1 n r) x1 := by
  obtain ⟨d, p, hd, hp, rfl, rfl⟩ := hp
  have hN : (if d = 1 then 8 else 6) ≤ 8 := by split <;> omega
  generalize hNe : (if d = 1 then 8 else 6) = N at hN
  have sh : ∀ o, o < 9 → (1 : Int32) <<< (nI o &&& 31) = nI (2 ^ o) := by decide
  unfold wX4_nextOf_0 wX4_nextOf_4
  refine wloop_up N (fun k (v : Int32 × Int32 × Int32) => k ≤ N ∧ v = (nI p, nI (nxo p k), nI k)) 0 ⟨Nat.zero_le _, rfl⟩ ?_
  rintro k v L ⟨hk, rfl⟩ hL
  refine ⟨fun h => ?_, fun h => ?_⟩
  · have := nle_of (show nI N ≤ nI k from h) (by omega) (by omega)
    have e : k = N := by omega
    subst e
    intro d' p' hd' hp' e1 e2
    have := nI_inj e2 (by omega) (by omega)
    subst this
    have f1 : ∀ a, a < 2 → ∀ b, b < 2 → nI (if a = 1 then 8 else 6) = nI (if b = 1 then 8 else 6) → a = b := by decide +kernel
    have := f1 d hd d' hd' (by rw [hNe]; exact e1)
    subst this
    rw [← nxo_nxM d hd p hp, hNe]
  · have hlt := nlt_of (show ¬ nI N ≤ nI k from h) (by omega) (by omega)
    unfold wX4_nextOf_12 wX4_nextOf_15
    have h0 := nxo_lt (p := p) k
    refine wloop_up 9 (fun o (v : Int32 × Int32 × Int32 × Int32) => o ≤ 9 ∧ v = (nI p, nI (nxi p k (nxo p k) o), nI k, nI o)) 0 ⟨Nat.zero_le _, rfl⟩ ?_
    rintro o v L2 ⟨ho, rfl⟩ hL2
    have hil := nxi_lt (p := p) (j := k) h0 o ho
    refine ⟨fun h2 => ?_, fun h2 => ?_⟩
    · have := nle_of (show nI 9 ≤ nI o from h2) (by omega) (by omega)
      have e : o = 9 := by omega
      subst e
      exact hL _ hlt ⟨by omega, (by show (nI p, nI (nxi p k (nxo p k) 9), nI k + 1) = _; rw [nI_up]; rfl)⟩
    · have ho9 := nlt_of (show ¬ nI 9 ≤ nI o from h2) (by omega) (by omega)
      have hv : vp_in (nI k) 8 := vin (by omega)
      have hc : (nI k).toNatClampNeg = k := nI_clamp (by omega)
      have hl8 := ln_lt k (by omega)
      have b1 := bit_t (lnN k) hl8 p hp
      have b2' := bit_t (lnN k) hl8 o ho9
      have skip : ((lnN k).testBit p && (lnN k).testBit o && besN p o) = false → L2 (nI p, nI (nxi p k (nxo p k) o) ||| 0, nI k, nI o + 1) := by
        intro hf
        refine hL2 _ ho9 ⟨by omega, ?_⟩
        rw [Int32.or_zero, nI_up]
        show _ = (nI p, nI (if (lnN k).testBit p && (lnN k).testBit o && besN p o then _ else _), nI k, nI (o + 1))
        rw [hf]; rfl
      refine ⟨hv, fun h3 => ?_, fun h3 => ?_⟩
      · have h3 : ¬ ((nI (lnN (nI k).toNatClampNeg) >>> (nI p &&& 31)) &&& (1 : Int32)) = (1 : Int32) := h3
        rw [hc, b1] at h3
        have hf : ((lnN k).testBit p && (lnN k).testBit o && besN p o) = false := by
          rw [Bool.not_eq_true] at h3
          rw [h3]; rfl
        exact ⟨fun _ => skip hf, fun z => absurd rfl z⟩
      · have h3 : ((nI (lnN (nI k).toNatClampNeg) >>> (nI p &&& 31)) &&& (1 : Int32)) = (1 : Int32) := h3
        rw [hc, b1] at h3
        refine ⟨hv, fun h4 => ?_, fun h4 => ?_⟩
        · have h4 : ¬ ((nI (lnN (nI k).toNatClampNeg) >>> (nI o &&& 31)) &&& (1 : Int32)) = (1 : Int32) := h4
          rw [hc, b2'] at h4
          have hf : ((lnN k).testBit p && (lnN k).testBit o && besN p o) = false := by
            rw [Bool.not_eq_true] at h4
            rw [h4, Bool.and_false]; rfl
          exact ⟨fun _ => skip hf, fun z => absurd rfl z⟩
        · have h4 : ((nI (lnN (nI k).toNatClampNeg) >>> (nI o &&& 31)) &&& (1 : Int32)) = (1 : Int32) := h4
          rw [hc, b2'] at h4
          refine ⟨fun z => absurd z (by decide), fun _ => ?_⟩
          intro r5 h5
          have h5 := h5 p hp o ho9 rfl rfl
          subst h5
          refine ⟨fun h6 => ?_, fun h6 => ?_⟩
          · have hf : ((lnN k).testBit p && (lnN k).testBit o && besN p o) = false := by rw [b2_0.mp h6, Bool.and_false]
            exact skip hf
          · have ht : ((lnN k).testBit p && (lnN k).testBit o && besN p o) = true := by rw [h3, h4, b2_n0.mp h6]; rfl
            refine hL2 _ ho9 ⟨by omega, ?_⟩
            show (nI p, nI (nxi p k (nxo p k) o) ||| (1 : Int32) <<< (nI o &&& 31), nI k, nI o + 1) = _
            have h2o : 2 ^ o < 2 ^ 9 := Nat.pow_lt_pow_right (by decide) ho9
            rw [sh o ho9, nI_or5 (by omega) (by omega), nI_up]
            show _ = (nI p, nI (if (lnN k).testBit p && (lnN k).testBit o && besN p o then _ else _), nI k, nI (o + 1))
            rw [ht]; rfl
