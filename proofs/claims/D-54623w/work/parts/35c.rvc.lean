/-! Rules.<init> -/
theorem vcX4_init (b : Nat) (x1 x2 : Int32) (hp : pX4_init x1 x2) : wX4_init_12 b (fun u : Nat × MS => qX4_init x1 x2 u.2) x1 x2 rst0 := by
  obtain ⟨d, l, hd, hl, rfl, rfl⟩ := hp
  have loop : ∀ st : MS, st.2 0 = nI (if d = 1 then 8 else 6) → st.2 1 = b2 (decide (l = 0)) → wX4_init_45 b (fun u : Nat × MS => qX4_init (nI d) (nI l) u.2) (0 : Int32) st := by
    intro st h1 h2
    unfold wX4_init_45
    refine wloop_up 9 (fun k (v : Int32 × MS) => k ≤ 9 ∧ ∃ st1 : MS, v = (nI k, st1) ∧ st1.2 = st.2 ∧ ∀ p, p < k → st1.1 0 p = nI (nxM d p)) 0 ⟨Nat.zero_le _, st, rfl, rfl, fun p hp => absurd hp (Nat.not_lt_zero _)⟩ ?_
    rintro k v L ⟨hk, st1, rfl, hf, hn⟩ hL
    refine ⟨fun h => ?_, fun h => ?_⟩
    · have := nle_of (show nI 9 ≤ nI k from h) (by omega) (by omega)
      have e : k = 9 := by omega
      subst e
      intro d' l' hd' hl' e1 e2
      have := nI_inj e1 (by omega) (by omega)
      subst this
      have := nI_inj e2 (by omega) (by omega)
      subst this
      refine ⟨hd, hl, ?_, ?_, hn⟩
      · show st1.2 0 = _
        rw [hf]; exact h1
      · show st1.2 1 = _
        rw [hf]; exact h2
    · have hlt := nlt_of (show ¬ nI 9 ≤ nI k from h) (by omega) (by omega)
      have hs0 : st1.2 0 = nI (if d = 1 then 8 else 6) := by rw [hf]; exact h1
      refine ⟨⟨d, k, hd, hlt, hs0, rfl⟩, fun r h3 => ?_⟩
      have h3 := h3 d k hd hlt hs0 rfl
      subst h3
      refine ⟨vin hlt, hL _ hlt ⟨by omega, mA st1 0 k (nI (nxM d k)), ?_, hf, fun p hp => ?_⟩⟩
      · show (nI k + 1, mA st1 0 (nI k).toNatClampNeg (nI (nxM d k))) = _
        rw [nI_up, nI_clamp (by omega)]
      · show upd (st1.1 0) k (nI (nxM d k)) p = _
        by_cases e : p = k
        · subst e; exact pk_us
        · rw [pk_un e]; exact hn p (by omega)
  have h27 : ∀ s1 : Int32, s1 = nI (if d = 1 then 8 else 6) → wX4_init_27 b (fun u : Nat × MS => qX4_init (nI d) (nI l) u.2) (nI l) s1 rst0 := by
    intro s1 h1
    refine ⟨fun h => ⟨Or.inl rfl, loop _ h1 ?_⟩, fun h => ⟨Or.inr rfl, loop _ h1 ?_⟩⟩
    · have : ¬ l = 0 := fun z => h (by rw [z]; rfl)
      rw [decide_eq_false this]; rfl
    · have : l = 0 := nI_inj (show nI l = nI 0 from h) (by omega) (by omega)
      rw [decide_eq_true this]; rfl
  refine ⟨fun h => h27 6 ?_, fun h => h27 8 ?_⟩
  · have : ¬ d = 1 := fun z => h (by rw [z]; rfl)
    rw [if_neg this]; rfl
  · have : d = 1 := nI_inj (show nI d = nI 1 from h) (by omega) (by omega)
    rw [if_pos this]; rfl
