theorem vcX3_remember (st : MS) (hp : pX3_remember st) : wX3_remember_0 (qX3_remember st) st := by
  unfold wX3_remember_0 wX3_remember_2
  refine wloop_up 7003 (fun k v => k ≤ 7003 ∧ v.1 = nI k ∧ frm [2] [] st v.2 ∧ ∀ j, j < k → v.2.1 2 j = st.1 0 j) 0 ⟨by omega, rfl, frm.refl _ _ _, fun j h2 => by omega⟩ ?_
  rintro k ⟨x, s1⟩ L ⟨h2, h3, h4, h7⟩ hL
  dsimp only at *
  subst h3
  unfold wX3_remember_2_b wX3_remember_27 wX3_remember_9
  rw [nI_clamp (n := k) (by omega), show nI k + (1 : Int32) = nI (k + 1) from nI_1 k]
  refine ⟨fun hc => ?_, fun hc => ?_⟩
  · have : 7003 ≤ k := nle_of (a := 7003) hc
    obtain rfl : k = 7003 := by omega
    exact ⟨h4, h7⟩
  · have hk : k < 7003 := nlt_of (a := 7003) hc
    refine ⟨vin hk, vin hk, hL _ hk ⟨by omega, rfl, frm_A h4 (by simp), fun j j2 => ?_⟩⟩
    rw [mA_self]
    by_cases e : j = k
    · subst e; rw [pk_us, h4.1 0 (by simp)]
    · rw [pk_un e]; exact h7 j (by omega)
theorem rec_copy (x1 : Int32) (post : Int32 → MS → Prop) (st : MS) (n : Nat) (hn : n < 6) (hs : st.2 0 = nI n) (hpost : ∀ st1, frm [1] [0] st st1 → st1.2 0 = nI (n + 1) → (∀ i, i < 7003 * n → st1.1 1 i = st.1 1 i) → (∀ k, k < 7003 → st1.1 1 (7003 * n + k) = st.1 2 k) → post x1 st1) : wX3_record_55 post x1 st := by
  unfold wX3_record_55 wX3_record_57
  refine wloop_up 7003 (fun k v => k ≤ 7003 ∧ v.1 = x1 ∧ v.2.1 = nI k ∧ frm [1] [] st v.2.2 ∧ (∀ i, i < 7003 * n → v.2.2.1 1 i = st.1 1 i) ∧ ∀ j, j < k → v.2.2.1 1 (7003 * n + j) = st.1 2 j) 0 ⟨by omega, rfl, rfl, frm.refl _ _ _, fun _ _ => rfl, fun j h2 => by omega⟩ ?_
  rintro k ⟨x, x2, s1⟩ L ⟨h2, rfl, h3, h4, h6, h7⟩ hL
  dsimp only at *
  subst h3
  have e0 : s1.2 0 = nI n := by rw [h4.2 0 (by simp)]; exact hs
  unfold wX3_record_57_b wX3_record_91 wX3_record_64
  rw [e0, show (7003 : Int32) = nI 7003 from rfl, pk_mul, nI_add, nI_clamp (n := 7003 * n + k) (by omega), nI_clamp (n := k) (by omega), show nI k + (1 : Int32) = nI (k + 1) from nI_1 k, show nI n + (1 : Int32) = nI (n + 1) from nI_1 n]
  refine ⟨fun hc => ?_, fun hc => ?_⟩
  · have : 7003 ≤ k := nle_of (a := 7003) hc
    obtain rfl : k = 7003 := by omega
    exact hpost _ (frm_F (h4.mono (by simp) (by simp)) (by simp)) (mF_self _ _ _) h6 h7
  · have hk : k < 7003 := nlt_of (a := 7003) hc
    refine ⟨vin hk, vin (by omega), hL _ hk ⟨by omega, rfl, rfl, frm_A h4 (by simp), fun i hi => ?_, fun j j2 => ?_⟩⟩
    · rw [mA_self, pk_un (by omega)]; exact h6 i hi
    · rw [mA_self]
      by_cases e : j = k
      · subst e; rw [pk_us, h4.1 2 (by simp)]
      · rw [pk_un (by omega)]; exact h7 j (by omega)
theorem vcX3_record (x1 : Int32) (st : MS) (hp : pX3_record x1 st) : wX3_record_0 (qX3_record x1 st) x1 st := by
  obtain ⟨n, hn, hs⟩ := hp
  unfold wX3_record_0 wX3_record_4 wX3_record_6
  rw [hs]
  have hneg : ∀ h : 0 ≤ x1, ¬ x1 < 0 := fun h => Int32.not_lt.mpr h
  refine ⟨fun h1 => ⟨fun h2 => ?_, fun h2 => ?_⟩, fun h1 => ⟨rfl, Or.inl ⟨Int32.not_le.mp h1, rfl⟩⟩⟩
  · have hn6 : ¬ n = 6 := fun q => h2 (by rw [q]; rfl)
    refine rec_copy x1 _ st n (by omega) hs (fun st1 hf h3 h4 h5 => ?_)
    refine ⟨rfl, Or.inr ⟨hneg h1, hf, fun n' hn' hs' => ?_⟩⟩
    obtain rfl : n = n' := nI_inj (hs.symm.trans hs')
    exact ⟨fun _ => ⟨h3, h4, h5⟩, fun q => absurd q hn6⟩
  · have hn6 : n = 6 := nI_inj (b := 6) h2
    subst hn6
    unfold wX3_record_15 wX3_record_17
    refine wloop_up 35015 (fun k v => k ≤ 35015 ∧ v.1 = x1 ∧ v.2.1 = nI k ∧ frm [1] [] st v.2.2 ∧ (∀ i, i < k → v.2.2.1 1 i = st.1 1 (7003 + i)) ∧ ∀ i, k ≤ i → v.2.2.1 1 i = st.1 1 i) 0 ⟨by omega, rfl, rfl, frm.refl _ _ _, fun j h2 => by omega, fun _ _ => rfl⟩ ?_
    rintro k ⟨x, x2, s1⟩ L ⟨h2, rfl, h3, h4, h6, h7⟩ hL
    dsimp only at *
    subst h3
    unfold wX3_record_17_b wX3_record_23 wX3_record_45
    rw [show (7003 : Int32) = nI 7003 from rfl, nI_add, nI_clamp (n := 7003 + k) (by omega), nI_clamp (n := k) (by omega), show nI k + (1 : Int32) = nI (k + 1) from nI_1 k]
    refine ⟨fun hc => ?_, fun hc => ?_⟩
    · have : 35015 ≤ k := nle_of (a := 35015) hc
      obtain rfl : k = 35015 := by omega
      have e0 : (mF s1 0 (s1.2 0 - (1 : Int32))).2 0 = nI 5 := by
        rw [mF_self, h4.2 0 (by simp), hs]; rfl
      refine rec_copy x _ _ 5 (by decide) e0 (fun st1 hf h8 h9 h10 => ?_)
      refine ⟨rfl, Or.inr ⟨hneg h1, (frm_F (h4.mono (by simp) (by simp)) (by simp)).trans hf, fun n' hn' hs' => ?_⟩⟩
      obtain rfl : 6 = n' := nI_inj (hs.symm.trans hs')
      refine ⟨fun q => absurd q (by decide), fun _ => ⟨h8, fun i hi => ?_, fun j hj => ?_⟩⟩
      · rw [h9 i (by omega)]; exact h6 i hi
      · rw [show 35015 + j = 7003 * 5 + j by omega, h10 j hj]
        exact congrFun (h4.1 2 (by simp)) j
    · have hk : k < 35015 := nlt_of (a := 35015) hc
      refine ⟨vin (by omega), vin (by omega), hL _ hk ⟨by omega, rfl, rfl, frm_A h4 (by simp), fun i hi => ?_, fun i hi => ?_⟩⟩
      · rw [mA_self]
        by_cases e : i = k
        · subst e; rw [pk_us, h7 _ (by omega)]
        · rw [pk_un e]; exact h6 i (by omega)
      · rw [mA_self, pk_un (by omega)]; exact h7 i (by omega)
