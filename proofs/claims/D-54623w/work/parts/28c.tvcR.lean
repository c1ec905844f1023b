/-! Rules' methods answer as their specs say -/
theorem rOK_inj {d l d' l' : Nat} {st : MS} (h : rOK d l st) (h' : rOK d' l' st) : d = d' ∧ l = l' := by
  obtain ⟨h1, h2, h3, h4, -⟩ := h
  obtain ⟨g1, g2, g3, g4, -⟩ := h'
  have e1 := h3.symm.trans g3
  have e2 := h4.symm.trans g4
  have f1 : ∀ a, a < 2 → ∀ b, b < 2 → nI (if a = 1 then 8 else 6) = nI (if b = 1 then 8 else 6) → a = b := by decide +kernel
  have f2 : ∀ a, a < 2 → ∀ b, b < 2 → b2 (decide (a = 0)) = b2 (decide (b = 0)) → a = b := by decide +kernel
  exact ⟨f1 d h1 d' g1 e1, f2 l h2 l' g2 e2⟩
theorem nI5 {a b : Nat} (ha : a < 512) (hb : b < 512) (h : nI a = nI b) : a = b := nI_inj h (by omega) (by omega)
theorem vcX4_next (x1 : Int32) (st : MS) (hp : pX4_next x1 st) : wX4_next_0 (fun (r : Int32) (u : MS) => qX4_next x1 st r ∧ st = u) x1 st := by
  obtain ⟨p, hp, rfl⟩ := hp
  refine ⟨vin hp, ?_, rfl⟩
  intro d l p' hr hp' e
  have := nI_inj e
  subst this
  rw [nI_clamp (by omega)]
  exact hr.2.2.2.2 p hp
theorem an_ln : ∀ m, m < 512 → ∀ j, j < 8 → (nI m &&& nI (lnN j) = nI (lnN j) ↔ m &&& lnN j = lnN j) := by decide +kernel
def hlk (m k : Nat) : Bool := (List.range k).any (fun j => m &&& lnN j == lnN j)
theorem hlk_s (m k : Nat) : hlk m (k + 1) = (hlk m k || (m &&& lnN k == lnN k)) := by
  unfold hlk
  rw [List.range_succ, List.any_append]
  simp
theorem hlk_d : ∀ d, d < 2 → ∀ m, m < 512 → hasL d m = hlk m (if d = 1 then 8 else 6) := by decide +kernel
theorem nI_up (k : Nat) : nI k + 1 = nI (k + 1) := nI_add k 1
theorem b2_or (a b : Bool) : b2 a ||| b2 b = b2 (a || b) := by cases a <;> cases b <;> decide
theorem vcX4_hasLine (x1 : Int32) (st : MS) (hp : pX4_hasLine x1 st) : wX4_hasLine_0 (fun (r : Int32) (u : MS) => qX4_hasLine x1 st r ∧ st = u) x1 st := by
  obtain ⟨d, l, hr, m, hm, rfl⟩ := hp
  have hd := hr.1
  have hN : (if d = 1 then 8 else 6) ≤ 8 := by split <;> omega
  unfold wX4_hasLine_0 wX4_hasLine_4
  refine wloop_up (if d = 1 then 8 else 6) (fun k (v : Int32 × Int32 × Int32 × MS) => k ≤ (if d = 1 then 8 else 6) ∧ v = (nI m, b2 (hlk m k), nI k, st)) 0 ⟨Nat.zero_le _, rfl⟩ ?_
  rintro k v L ⟨hk, rfl⟩ hL
  refine ⟨fun h => ?_, fun h => ?_⟩
  · have h : nI (if d = 1 then 8 else 6) ≤ nI k := by rw [← hr.2.2.1]; exact h
    have := nle_of h (by omega) (by omega)
    have hk2 : k = if d = 1 then 8 else 6 := by omega
    refine ⟨isB_b2 _, ?_, rfl⟩
    intro d' l' m' hr' hm' e
    obtain ⟨rfl, rfl⟩ := rOK_inj hr hr'
    have := nI5 hm hm' e
    subst this
    rw [hlk_d d hd m hm, ← hk2]
  · have h : ¬ nI (if d = 1 then 8 else 6) ≤ nI k := by rw [← hr.2.2.1]; exact h
    have hlt := nlt_of h (by omega) (by omega)
    have hv : vp_in (nI k) 8 := vin (by omega)
    have hc : (nI k).toNatClampNeg = k := nI_clamp (by omega)
    refine ⟨hv, hv, fun h2 => ?_, fun h2 => ?_⟩
    all_goals
      have h2 := h2
      dsimp only at h2
      rw [hc] at h2
    · have h3 : (m &&& lnN k == lnN k) = false := by
        rw [beq_eq_false_iff_ne]
        exact fun z => h2 ((an_ln m hm k (by omega)).mpr z)
      refine hL _ hlt ⟨by omega, ?_⟩
      rw [hlk_s, h3, Bool.or_false]
      show (nI m, b2 (hlk m k) ||| 0, nI k + 1, st) = _
      have e0 : b2 (hlk m k) ||| 0 = b2 (hlk m k || false) := b2_or _ false
      rw [e0, Bool.or_false, nI_up]
    · have h3 : (m &&& lnN k == lnN k) = true := by
        rw [beq_iff_eq]
        exact (an_ln m hm k (by omega)).mp h2
      refine hL _ hlt ⟨by omega, ?_⟩
      rw [hlk_s, h3]
      show (nI m, b2 (hlk m k) ||| 1, nI k + 1, st) = _
      have e0 : b2 (hlk m k) ||| 1 = b2 (hlk m k || true) := b2_or _ true
      rw [e0, nI_up]
