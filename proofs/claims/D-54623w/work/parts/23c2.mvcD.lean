theorem vcX3_undo (S : SS) (st : MS) (h : mOK st S) : wX3_undo_0 (fun r st1 => r = (sUndo S).1 ∧ mOK st1 (sUndo S).2) st := by
  obtain ⟨hg, ht, hp, hs, hd⟩ := h
  unfold wX3_undo_0 wX3_undo_10 wX3_undo_7
  have hp6 := hp.1
  rw [hp.2.1]
  refine ⟨fun h1 => ?_, fun h1 => ?_⟩
  · have hne : S.2.1 ≠ [] := by
      intro z
      rw [z] at h1
      exact h1 rfl
    have hpos : 0 < S.2.1.length := List.length_pos_iff.mpr hne
    obtain ⟨n, hn⟩ : ∃ n, S.2.1.length = n + 1 := ⟨S.2.1.length - 1, by omega⟩
    have hgl : S.2.1.getLast? = some (S.2.1.getD n (gNew 0 0)) := by
      rw [List.getLast?_eq_getElem?, hn, Nat.add_sub_cancel, List.getD_eq_getElem?_getD, List.getElem?_eq_getElem (by omega)]
      rfl
    have eS : sUndo S = (nI n, (S.2.1.getD n (gNew 0 0), S.2.1.dropLast, S.2.2)) := by
      unfold sUndo
      rw [hgl, hn]
      rfl
    rw [hn, show nI (n + 1) - (1 : Int32) = nI n from nI_pred n, eS]
    unfold wX3_undo_22
    refine wloop_up 7003 (fun k v => k ≤ 7003 ∧ v.1 = nI k ∧ frm [0] [] (mF st 0 (nI n)) v.2 ∧ ∀ j, j < k → v.2.1 0 j = st.1 1 (7003 * n + j)) 0 ⟨by omega, rfl, frm.refl _ _ _, fun j hj => by omega⟩ ?_
    rintro k ⟨x, s1⟩ L ⟨h2, h3, h4, h7⟩ hL
    dsimp only at *
    subst h3
    have e0 : s1.2 0 = nI n := by rw [h4.2 0 (by simp), mF_self]
    unfold wX3_undo_22_b wX3_undo_56 wX3_undo_29
    rw [e0, show (7003 : Int32) = nI 7003 from rfl, pk_mul, nI_add, nI_clamp (n := 7003 * n + k) (by omega), nI_clamp (n := k) (by omega), show nI k + (1 : Int32) = nI (k + 1) from nI_1 k]
    refine ⟨fun hc => ?_, fun hc => ?_⟩
    · have : 7003 ≤ k := nle_of (a := 7003) hc
      obtain rfl : k = 7003 := by omega
      have hf : frm [0] [0] st s1 := (frm_F (frm.refl [0] [0] st) (by simp)).trans (h4.mono (by simp) (by simp))
      refine ⟨rfl, ?_, tabs_frm hf (by decide) (by decide) ht, ?_, slotOK_frm hf (by decide) (by decide) hs, padOK_frm hf (by decide) (by decide) hd⟩
      · exact rowOK_congr (fun j hj => h7 j hj) (hp.2.2 n (by omega))
      · have hdl : S.2.1.dropLast.length = n := by rw [List.length_dropLast]; omega
        refine ⟨by rw [hdl]; omega, by rw [hdl]; exact e0, fun i hi => ?_⟩
        rw [hdl] at hi
        have eg : S.2.1.dropLast.getD i (gNew 0 0) = S.2.1.getD i (gNew 0 0) := by
          rw [List.getD_eq_getElem?_getD, List.getD_eq_getElem?_getD, List.getElem?_dropLast, if_pos (by omega)]
        have := hp.2.2 i (by omega)
        show rowOK (fun k => s1.1 1 (7003 * i + k)) (S.2.1.dropLast.getD i (gNew 0 0))
        rw [hf.1 1 (by simp), eg]
        exact this
    · have hk : k < 7003 := nlt_of (a := 7003) hc
      refine ⟨vin (by omega), vin hk, hL _ hk ⟨by omega, rfl, frm_A h4 (by simp), fun j j2 => ?_⟩⟩
      rw [mA_self]
      by_cases e : j = k
      · subst e; rw [pk_us, h4.1 1 (by simp), mF_A]
      · rw [pk_un e]; exact h7 j (by omega)
  · have : S.2.1.length = 0 := nI_inj (b := 0) h1
    have hnil : S.2.1 = [] := List.eq_nil_of_length_eq_zero this
    have eS : sUndo S = (-5, S) := by
      unfold sUndo
      rw [hnil]
      rfl
    rw [eS]
    exact ⟨rfl, hg, ht, hp, hs, hd⟩
theorem vcX3_save (x : Int32) (S : SS) (st : MS) (h : mOK st S) : wX3_save_0 (fun r st1 => r = (sSave x S).1 ∧ mOK st1 (sSave x S).2) x st := by
  unfold wX3_save_0 wX3_save_10
  intro r1 h1
  rw [in_01 h1]
  refine ⟨fun h2 => ?_, fun h2 => ?_⟩
  · have hx := b2_n0.mp h2
    obtain ⟨a, ha, ex, ex2⟩ := in01_of hx
    have eS : sSave x S = (nI (nmv S.1), (S.1, S.2.1, va_up S.2.2.1 a (some S.1), S.2.2.2)) := by
      unfold sSave
      rw [hx, ex2]
      rfl
    rw [eS, ex]
    obtain ⟨hg, ht, hp, hs, hd⟩ := h
    unfold wX3_save_13 wX3_save_15
    refine wloop_up 7003 (fun k v => k ≤ 7003 ∧ v.1 = nI a ∧ v.2.1 = nI k ∧ frm [3] [] st v.2.2 ∧ (∀ j, j < k → v.2.2.1 3 (7003 * a + j) = st.1 0 j) ∧ ∀ i, (i < 7003 * a ∨ 7003 * a + 7003 ≤ i) → v.2.2.1 3 i = st.1 3 i) 0 ⟨by omega, rfl, rfl, frm.refl _ _ _, fun j hj => by omega, fun _ _ => rfl⟩ ?_
    rintro k ⟨x0, x2, s1⟩ L ⟨h2, rfl, h3, h4, h7, h8⟩ hL
    dsimp only at *
    subst h3
    unfold wX3_save_15_b wX3_save_46 wX3_save_22
    rw [show ((2 : Int32)).toNatClampNeg = 2 from rfl, show (7003 : Int32) = nI 7003 from rfl, pk_mul, nI_add, nI_clamp (n := 7003 * a + k) (by omega), nI_clamp (n := k) (by omega), nI_clamp (n := a) (by omega), show nI k + (1 : Int32) = nI (k + 1) from nI_1 k, show vp_nar .boolean (1 : Int32) = 1 from rfl, mA_ne _ _ _ (show (0 : Nat) ≠ 4 by decide)]
    refine ⟨fun hc => ?_, fun hc => ?_⟩
    · have : 7003 ≤ k := nle_of (a := 7003) hc
      obtain rfl : k = 7003 := by omega
      have hf : frm [3, 4] [] st (mA s1 4 a 1) := frm_A (h4.mono (by simp) (by simp)) (by simp)
      refine ⟨vin ha, vin (n := 2) (by decide), ?_, gst_frm hf (by decide) hg, tabs_frm hf (by decide) (by decide) ht, pastOK_frm hf (by decide) (by decide) hp, fun j hj => ?_, padOK_frm hf (by decide) (by decide) hd⟩
      · rw [h4.1 0 (by simp)]; exact hg.2.2.2.2.1
      · rw [mA_self, mA_ne _ _ _ (show (3 : Nat) ≠ 4 by decide), h4.1 4 (by simp)]
        by_cases e : j = a
        · subst e
          right
          exact ⟨S.1, va_up_self _ _ _, pk_us, rowOK_congr (fun k hk => h7 k hk) hg⟩
        · rw [pk_un e]
          dsimp only
          rw [va_up_ne _ _ e]
          rcases hs j hj with q | ⟨g, q1, q2, q3⟩
          · exact Or.inl q
          · refine Or.inr ⟨g, q1, q2, rowOK_congr (fun k hk => h8 _ (by omega)) q3⟩
    · have hk : k < 7003 := nlt_of (a := 7003) hc
      refine ⟨vin hk, vin (by omega), hL _ hk ⟨by omega, rfl, rfl, frm_A h4 (by simp), fun j j2 => ?_, fun i hi => ?_⟩⟩
      · rw [mA_self]
        by_cases e : j = k
        · subst e; rw [pk_us, h4.1 0 (by simp)]
        · rw [pk_un (by omega)]; exact h7 j (by omega)
      · rw [mA_self, pk_un (by omega)]; exact h8 i hi
  · have hx := b2_0.mp h2
    unfold sSave
    rw [hx]
    exact ⟨rfl, h⟩
theorem vcX3_restore (x : Int32) (S : SS) (st : MS) (h : mOK st S) : wX3_restore_0 (fun r st1 => r = (sRest x S).1 ∧ mOK st1 (sRest x S).2) x st := by
  unfold wX3_restore_0 wX3_restore_10 wX3_restore_13
  intro r1 h1
  rw [in_01 h1]
  refine ⟨fun h2 => ?_, fun h2 => ?_⟩
  · have hx := b2_n0.mp h2
    obtain ⟨a, ha, ex, ex2⟩ := in01_of hx
    rw [ex, nI_clamp (by omega), ← ex]
    rcases h.2.2.2.1 a ha with ⟨q1, q2⟩ | ⟨g, q1, q2, q3⟩
    · rw [q2]
      refine ⟨by rw [ex]; exact vin ha, fun z => absurd rfl z, fun _ => ?_⟩
      unfold wX3_restore_22 sRest
      rw [hx, ex2, q1]
      exact ⟨rfl, h⟩
    · rw [q2]
      refine ⟨by rw [ex]; exact vin ha, fun _ => ?_, fun z => absurd z (by decide)⟩
      have eS : sRest x S = (nI (nmv g), (g, recS S, S.2.2)) := by
        unfold sRest
        rw [hx, ex2, q1]
        rfl
      rw [eS, ex]
      unfold wX3_restore_25
      refine ⟨trivial, fun st1 h3 => ?_⟩
      have hm1 : mOK st1 S := mOK_frm h3.1 (by simp) (by simp) h
      unfold wX3_restore_31
      refine wloop_up 7003 (fun k v => k ≤ 7003 ∧ v.1 = nI a ∧ v.2.1 = nI k ∧ frm [0] [] st1 v.2.2 ∧ (∀ j, j < k → v.2.2.1 0 j = st.1 3 (7003 * a + j))) 0 ⟨by omega, rfl, rfl, frm.refl _ _ _, fun j hj => by omega⟩ ?_
      rintro k ⟨x0, x2, s1⟩ L ⟨h4, rfl, h5, h6, h7⟩ hL
      dsimp only at *
      subst h5
      have hng : nmv g < 7000 := by
        have := len_pos q3.1
        have := q3.2.1
        unfold nmv
        omega
      unfold wX3_restore_31_b wX3_restore_62 wX3_restore_38
      rw [show ((2 : Int32)).toNatClampNeg = 2 from rfl, show (7003 : Int32) = nI 7003 from rfl, pk_mul, nI_add, nI_clamp (n := 7003 * a + k) (by omega), nI_clamp (n := k) (by omega), show nI k + (1 : Int32) = nI (k + 1) from nI_1 k]
      refine ⟨fun hc => ?_, fun hc => ?_⟩
      · have : 7003 ≤ k := nle_of (a := 7003) hc
        obtain rfl : k = 7003 := by omega
        have hg1 : gst s1 g := rowOK_congr (fun j hj => h7 j hj) q3
        have hf : frm [0, 7, 8, 9, 10] [3, 4] st1 s1 := h6.mono (by simp) (by simp)
        rw [hg1.2.2.2.2.1]
        refine ⟨vin (n := 2) (by decide), rec_pre _ (pastOK_frm hf (by decide) (by decide) hm1.2.2.1), fun r8 st8 h8 => ?_⟩
        have := ord_fin h h3 hf (tabs_frm h6 (by decide) (by decide) hm1.2.1) hg1 h8
        unfold ordS at this
        rw [if_neg (nI_pos (by omega))] at this
        exact this
      · have hk : k < 7003 := nlt_of (a := 7003) hc
        refine ⟨vin (by omega), vin hk, hL _ hk ⟨by omega, rfl, rfl, frm_A h6 (by simp), fun j j2 => ?_⟩⟩
        rw [mA_self]
        by_cases e : j = k
        · subst e; rw [pk_us, h6.1 3 (by simp), h3.1.1 3 (by simp)]
        · rw [pk_un e]; exact h7 j (by omega)
  · have hx := b2_0.mp h2
    unfold sRest
    rw [hx]
    exact ⟨rfl, h⟩
theorem vcX3_at (x : Int32) (S : SS) (st : MS) (h : mOK st S) : wX3_at_0 (fun r st1 => r = sAt x S ∧ mOK st1 S) x st := by
  unfold wX3_at_0 wX3_at_11 wX3_at_13 wX3_at_30 wX3_at_35 wX3_at_43
  intro r1 h1
  rw [in_09 h1]
  refine ⟨fun h2 => ?_, fun h2 => ?_⟩
  · have hx := b2_n0.mp h2
    obtain ⟨a, ha, ex, ex2⟩ := in09_of hx
    refine ⟨gst_pnow h.1, fun r3 h3 => ?_⟩
    rw [gst_now h.1 h3]
    refine ⟨gst_popen h.1, fun st4 h4 => ?_⟩
    have ho := gst_open h.1 h4
    have hm4 : mOK st4 S := mOK_frm h4.1 (by simp) (by simp) h
    have hb := (cur_ok h.1.1).1
    have hcl := cel_lt hb.2.2.1 a
    have hap := and0 hb.2.2.1 a
    have eS : sAt x S = (if (cur S.1).1.testBit a then 0 else if (cur S.1).2.1.testBit a then 1 else -6) := by
      unfold sAt
      rw [hx, ex2]
      rfl
    rw [eS, ex, nI_clamp (by omega), ho.2.1 a ha]
    refine ⟨vin ha, fun h5 => ⟨vin ha, ?_, hm4⟩, fun h5 => ⟨?_, hm4⟩⟩
    · have h6 : ¬ cel (cur S.1).1 (cur S.1).2.1 a = 0 := fun z => h5 (by rw [z]; rfl)
      unfold cel at h6 ⊢
      cases f1 : (cur S.1).1.testBit a <;> cases s1 : (cur S.1).2.1.testBit a <;> simp_all <;> rfl
    · have h6 : cel (cur S.1).1 (cur S.1).2.1 a = 0 := nI_inj (b := 0) h5
      unfold cel at h6
      cases f1 : (cur S.1).1.testBit a <;> cases s1 : (cur S.1).2.1.testBit a <;> simp_all
  · have hx := b2_0.mp h2
    unfold sAt
    rw [hx]
    exact ⟨rfl, h⟩
