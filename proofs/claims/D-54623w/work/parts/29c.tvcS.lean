/-! Table's small methods answer as their specs say -/
theorem isBd_inj {b b' : Bd} {x1 x2 x3 : Int32} (h : isBd b x1 x2 x3) (h' : isBd b' x1 x2 x3) : b = b' := by
  obtain ⟨h0, h1, h2, h3⟩ := h
  obtain ⟨g0, g1, g2, g3⟩ := h'
  have e1 := nI5 h0.1 g0.1 (h1.symm.trans g1)
  have e2 := nI5 h0.2.1 g0.2.1 (h2.symm.trans g2)
  have l1 := h0.2.2.2
  have l2 := g0.2.2.2
  have e3 := nI_inj (h3.symm.trans g3) (by omega) (by omega)
  exact Prod.ext e1 (Prod.ext e2 e3)
theorem ixB_lt {b : Bd} (h : bokB b) : ixB b < 39366 := by
  have h1 := trn_lt h.2.2.1 9
  have h2 := h.2.2.2
  have h3 : (3 : Nat) ^ 9 = 19683 := by decide
  unfold ixB
  omega
theorem trn1_lt {m : Nat} : trn m 0 9 < 19683 := trn_lt (f := m) (s := 0) (Nat.and_zero m) 9
theorem vcX5_indexOf (x1 x2 x3 : Int32) (st : MS) (hp : pX5_indexOf x1 x2 x3 st) : wX5_indexOf_0 (fun (r : Int32) (u : MS) => qX5_indexOf x1 x2 x3 st r ∧ st = u) x1 x2 x3 st := by
  obtain ⟨hc, b, hb⟩ := hp
  have hb' := hb
  obtain ⟨h0, rfl, rfl, rfl⟩ := hb'
  have l1 : b.1 < 512 := h0.1
  have l2 : b.2.1 < 512 := h0.2.1
  refine ⟨vin l1, vin l2, ?_, rfl⟩
  intro b' hb'
  have := isBd_inj hb hb'
  subst this
  rw [nI_clamp (by omega), nI_clamp (by omega), hc _ l1, hc _ l2]
  show (nI 2 * (nI _ + nI 2 * nI _)) + nI _ = _
  rw [pk_mul, nI_add, pk_mul, nI_add]
  unfold ixB
  rw [trn_lin b.1 b.2.1 9]
theorem vcX5_worth (x1 x2 x3 : Int32) (st : MS) (hp : pX5_worth x1 x2 x3 st) : wX5_worth_0 (fun (r : Int32) (u : MS) => qX5_worth x1 x2 x3 st r ∧ st = u) x1 x2 x3 st := by
  obtain ⟨hc, b, hb⟩ := hp
  refine ⟨⟨hc, b, hb⟩, fun r1 h1 => ?_⟩
  have h1 := h1 b hb
  subst h1
  have hl := ixB_lt hb.1
  refine ⟨vin hl, ?_, rfl⟩
  intro b' hb'
  have := isBd_inj hb hb'
  subst this
  rw [nI_clamp (by omega)]
theorem pkB_lt {b : Bd} (h : bokB b) : pkB b < 524288 := by
  have h1 : b.1 < 512 := h.1
  have h2 : b.2.1 < 512 := h.2.1
  have h3 : b.2.2 < 2 := h.2.2.2
  unfold pkB
  omega
theorem pk_1 {b : Bd} (h : bokB b) : nI (pkB b) &&& (511 : Int32) = nI b.1 := by
  have hl := pkB_lt h
  have h1 : b.1 < 512 := h.1
  show nI (pkB b) &&& nI 511 = _
  rw [nI_and5 (by omega) (by decide), show (511 : Nat) = 2 ^ 9 - 1 from rfl, Nat.and_two_pow_sub_one_eq_mod]
  congr 1
  unfold pkB
  omega
theorem pk_2 {b : Bd} (h : bokB b) : (nI (pkB b) >>> ((9 : Int32) &&& 31)) &&& (511 : Int32) = nI b.2.1 := by
  have hl := pkB_lt h
  have h1 : b.1 < 512 := h.1
  have h2 : b.2.1 < 512 := h.2.1
  rw [pk_shrN (by omega) _ 9 (by decide)]
  show nI (pkB b / 2 ^ 9) &&& nI 511 = _
  rw [nI_and5 (Nat.lt_of_le_of_lt (Nat.div_le_self _ _) (by omega)) (by decide), show (511 : Nat) = 2 ^ 9 - 1 from rfl, Nat.and_two_pow_sub_one_eq_mod]
  congr 1
  unfold pkB
  omega
theorem pk_3 {b : Bd} (h : bokB b) : nI (pkB b) >>> ((18 : Int32) &&& 31) = nI b.2.2 := by
  have hl := pkB_lt h
  have h1 : b.1 < 512 := h.1
  have h2 : b.2.1 < 512 := h.2.1
  rw [pk_shrN (by omega) _ 18 (by decide)]
  congr 1
  unfold pkB
  omega
theorem vcX5_first (x1 : Int32) (st : MS) (hp : pX5_first x1 st) : wX5_first_0 (fun (r : Int32) (u : MS) => qX5_first x1 st r ∧ st = u) x1 st := by
  obtain ⟨k, hk, rfl⟩ := hp
  refine ⟨vin hk, ?_, rfl⟩
  intro k' b hk' e hb hs
  have := nI_inj e
  subst this
  rw [nI_clamp (by omega), hs]
  exact pk_1 hb
theorem vcX5_second (x1 : Int32) (st : MS) (hp : pX5_second x1 st) : wX5_second_0 (fun (r : Int32) (u : MS) => qX5_second x1 st r ∧ st = u) x1 st := by
  obtain ⟨k, hk, rfl⟩ := hp
  refine ⟨vin hk, ?_, rfl⟩
  intro k' b hk' e hb hs
  have := nI_inj e
  subst this
  rw [nI_clamp (by omega), hs]
  exact pk_2 hb
theorem vcX5_mover (x1 : Int32) (st : MS) (hp : pX5_mover x1 st) : wX5_mover_0 (fun (r : Int32) (u : MS) => qX5_mover x1 st r ∧ st = u) x1 st := by
  obtain ⟨k, hk, rfl⟩ := hp
  refine ⟨vin hk, ?_, rfl⟩
  intro k' b hk' e hb hs
  have := nI_inj e
  subst this
  rw [nI_clamp (by omega), hs]
  exact pk_3 hb
theorem pkB_inj {b b' : Bd} (h : bokB b) (h' : bokB b') (e : nI (pkB b) = nI (pkB b')) : b = b' := by
  have l1 := pkB_lt h
  have l2 := pkB_lt h'
  have e := nI_inj e (by omega) (by omega)
  have h1 : b.1 < 512 := h.1
  have h2 : b.2.1 < 512 := h.2.1
  have g1 : b'.1 < 512 := h'.1
  have g2 : b'.2.1 < 512 := h'.2.1
  unfold pkB at e
  exact Prod.ext (by omega) (Prod.ext (by omega) (by omega))
theorem vcX5_worthAt (x1 : Int32) (st : MS) (hp : pX5_worthAt x1 st) : wX5_worthAt_0 (fun (r : Int32) (u : MS) => qX5_worthAt x1 st r ∧ st = u) x1 st := by
  obtain ⟨hc, k, b, hk, rfl, hb, hs⟩ := hp
  refine ⟨⟨k, hk, rfl⟩, fun r1 h1 => ⟨⟨k, hk, rfl⟩, fun r2 h2 => ⟨⟨k, hk, rfl⟩, fun r3 h3 => ?_⟩⟩⟩
  have h1 := h1 k b hk rfl hb hs
  have h2 := h2 k b hk rfl hb hs
  have h3 := h3 k b hk rfl hb hs
  have hbd : isBd b r1 r2 r3 := ⟨hb, h1, h2, h3⟩
  refine ⟨⟨hc, b, hbd⟩, fun r4 h4 => ⟨?_, rfl⟩⟩
  have h4 := h4 b hbd
  intro k' b' hk' e hb' hs'
  have := nI_inj e
  subst this
  have := pkB_inj hb hb' (hs.symm.trans hs')
  subst this
  exact h4
theorem vcX5_behind (x1 x2 x3 x4 : Int32) (st : MS) (hp : pX5_behind x1 x2 x3 x4 st) : wX5_behind_0 (fun (r : Int32) (u : MS) => qX5_behind x1 x2 x3 x4 st r ∧ st = u) x1 x2 x3 x4 st := by
  obtain ⟨hc, b, q, hb, hk, rfl⟩ := hp
  have hb0 := hb
  obtain ⟨h0, rfl, rfl, rfl⟩ := hb0
  have l1 : b.1 < 512 := h0.1
  have l2 : b.2.1 < 512 := h0.2.1
  have l3 : b.2.2 < 2 := h0.2.2.2
  have hq := okm_le hk
  have hn := nxb_bok h0 hk
  have fin : ∀ r : Int32, r = st.1 2 (ixB (nxb b q)) → qX5_behind (nI b.1) (nI b.2.1) (nI b.2.2) (nI q) st r ∧ st = st := by
    intro r h
    refine ⟨?_, rfl⟩
    intro b' q' hb' hk' e
    have := isBd_inj hb hb'
    subst this
    have hq' := okm_le hk'
    have := nI_inj e (by omega) (by omega)
    subst this
    exact h
  refine ⟨fun h => ?_, fun h => ?_⟩
  · have hm : ¬ b.2.2 = 0 := fun z => h (by rw [z]; rfl)
    have en : nxb b q = (b.1, app b.2.1 q, 0) := if_neg hm
    intro r1 h1
    have h1 := h1 b.2.1 l2 q (by omega) rfl rfl
    subst h1
    have hbd : isBd (nxb b q) (nI b.1) (nI (app b.2.1 q)) (0 : Int32) := by
      rw [en] at hn ⊢
      exact ⟨hn, rfl, rfl, rfl⟩
    exact ⟨⟨hc, _, hbd⟩, fun r2 h2 => fin _ (h2 _ hbd)⟩
  · have hm : b.2.2 = 0 := nI_inj (show nI b.2.2 = nI 0 from h) (by omega) (by omega)
    have en : nxb b q = (app b.1 q, b.2.1, 1) := if_pos hm
    intro r1 h1
    have h1 := h1 b.1 l1 q (by omega) rfl rfl
    subst h1
    have hbd : isBd (nxb b q) (nI (app b.1 q)) (nI b.2.1) (1 : Int32) := by
      rw [en] at hn ⊢
      exact ⟨hn, rfl, rfl, rfl⟩
    exact ⟨⟨hc, _, hbd⟩, fun r2 h2 => fin _ (h2 _ hbd)⟩
