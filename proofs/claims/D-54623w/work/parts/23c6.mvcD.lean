/-! group D: reading orders -/
theorem chP_out {P : List Nat} {i : Nat} (h : P.length ≤ i) : chP P i = 0 := by
  unfold chP
  rw [List.getD_eq_getElem?_getD, List.getElem?_eq_none h]
  rfl
theorem padOK_inj {st : MS} {P P' : List Nat} (h : padOK st P) (h' : padOK st P') : P = P' := by
  have a1 := h.1
  have a2 := h'.1
  have e : P.length = P'.length := nI_inj (h.2.1.symm.trans h'.2.1)
  apply List.ext_getElem e
  intro i h1 h2
  obtain ⟨q1, q2, q3⟩ := h.2.2 i h1
  obtain ⟨r1, r2, r3⟩ := h'.2.2 i h2
  have : chP P i = chP P' i := nI_inj (q1.symm.trans r1)
  unfold chP at this
  rw [List.getD_eq_getElem?_getD, List.getD_eq_getElem?_getD, List.getElem?_eq_getElem h1, List.getElem?_eq_getElem h2] at this
  exact this
theorem atOK_inj {st : MS} {i j : Nat} (h : atOK st i) (h' : atOK st j) : i = j := by
  have a1 := h.2
  have a2 := h'.2
  exact nI_inj (h.1.symm.trans h'.1)
theorem vcX3_sees (x1 x2 : Int32) (st : MS) (hp : pX3_sees x1 x2 st) : wX3_sees_0 (fun (r : Int32) (u : MS) => qX3_sees x1 x2 st r ∧ st = u) x1 x2 st := by
  obtain ⟨P, i, hP, hi⟩ := hp
  have h80 := hP.1
  have hi2 := hi.2
  have key : ∀ b : Bool, b = decide (i < P.length ∧ x1.toInt ≤ chP P i ∧ chP P i ≤ x2.toInt) → isB (b2 b) ∧ qX3_sees x1 x2 st (b2 b) ∧ st = st := by
    intro b e
    refine ⟨isB_b2 b, fun P' i' hP' hi' => ?_, rfl⟩
    obtain rfl := padOK_inj hP hP'
    obtain rfl := atOK_inj hi hi'
    rw [e]
  unfold wX3_sees_0 wX3_sees_11 wX3_sees_33 wX3_sees_29 wX3_sees_34
  rw [hP.2.1, hi.1]
  refine ⟨fun h1 => key false ?_, fun h1 => ?_⟩
  · have := nle_of h1
    rw [decide_eq_false (by omega)]
  · have hlt : i < P.length := nlt_of h1
    obtain ⟨q1, q2, q3⟩ := hP.2.2 i hlt
    rw [nI_clamp (by omega), q1]
    refine ⟨vin (by omega), fun r h2 => ?_⟩
    have e2 : r = b2 (decide (i < P.length ∧ x1.toInt ≤ chP P i ∧ chP P i ≤ x2.toInt)) := by
      unfold qX3_in at h2
      rw [h2, Int32.toInt_toInt64, iI_nI, iI_toInt (by omega) (by omega)]
      congr 1
      rw [decide_eq_decide]
      omega
    subst e2
    exact ⟨fun h3 => key false (b2_0.mp h3).symm, fun h3 => key true (b2_n0.mp h3).symm⟩
theorem vcX3_sign (x1 x2 : Int32) (st : MS) (hp : pX3_sign x1 x2 st) : wX3_sign_0 (qX3_sign x1 x2 st) x1 x2 st := by
  obtain ⟨⟨P, i, hP, hi⟩, a0, ha0, ex0⟩ := hp
  have h80 := hP.1
  have hi2 := hi.2
  unfold wX3_sign_0 wX3_sign_12 wX3_sign_9
  refine ⟨⟨P, i, hP, hi⟩, fun r h1 => ?_⟩
  have e1 := h1 P i hP hi
  subst e1
  rw [mF_self, mF_A, hi.1, show nI i + (1 : Int32) = nI (i + 1) from nI_1 i, show nI (i + 1) - (1 : Int32) = nI i from nI_pred i, nI_clamp (by omega)]
  refine ⟨fun h2 => ?_, fun h2 => ?_⟩
  · have h3 := of_decide_eq_true (b2_n0.mp h2)
    obtain ⟨q1, q2, q3⟩ := hP.2.2 i h3.1
    refine ⟨vin (by omega), fun P' i' a b hP' hi' e1 e2 ha hb => ?_⟩
    obtain rfl := padOK_inj hP hP'
    obtain rfl := atOK_inj hi hi'
    subst e1; subst e2
    rw [iI_nI, iI_nI, iI_toInt (by omega) (by omega), iI_toInt (by omega) (by omega)] at h3
    rw [if_pos (decide_eq_true ⟨h3.1, by omega, by omega⟩), q1, sub_n (by omega)]
    exact ⟨rfl, rfl⟩
  · have h3 := of_decide_eq_false (b2_0.mp h2)
    intro P' i' a b hP' hi' e1 e2 ha hb
    obtain rfl := padOK_inj hP hP'
    obtain rfl := atOK_inj hi hi'
    subst e1; subst e2
    rw [iI_nI, iI_nI, iI_toInt (by omega) (by omega), iI_toInt (by omega) (by omega)] at h3
    rw [if_neg]
    · exact ⟨rfl, rfl⟩
    · simp only [decide_eq_true_eq]
      omega
theorem atOK_set {st : MS} {i : Nat} (h : i ≤ 200) : atOK (mF st 2 (nI i)) i := ⟨mF_self _ _ _, h⟩
theorem rdO_le (P : List Nat) (i : Nat) : (rdO P i).2.1 ≤ i + 3 ∧ i ≤ (rdO P i).2.1 := by
  unfold rdO
  repeat' split
  all_goals exact ⟨by dsimp only; omega, by dsimp only; omega⟩
theorem vcX3_order (x1 : Int32) (st : MS) (hp : pX3_order x1 st) : wX3_order_0 (qX3_order x1 st) x1 st := by
  obtain ⟨⟨P, i, hP, hi, hi100⟩, hB, hgame⟩ := hp
  have h80 := hP.1
  have hcl : ∀ j, chP P j ≤ 126 := by
    intro j
    by_cases hj : j < P.length
    · exact (hP.2.2 j hj).2.2
    · rw [chP_out (by omega)]; omega
  have dge : ∀ j lo hi', 0 < lo → (decide (j < P.length ∧ lo ≤ chP P j ∧ chP P j ≤ hi')) = decide (lo ≤ chP P j ∧ chP P j ≤ hi') := by
    intro j lo hi' hlo
    rw [decide_eq_decide]
    constructor
    · exact fun z => z.2
    · intro z
      refine ⟨?_, z⟩
      apply Classical.byContradiction
      intro hj
      rw [chP_out (by omega)] at z
      omega
  -- nothing but the place has changed: told an error
  have bad : ∀ st2, frm [] [2] st st2 → atOK st2 (rdO P i).2.1 → (rdO P i).1 = false → qX3_order x1 st (-3 : Int32) st2 := by
    intro st2 hf ha hr
    refine ⟨hf.mono (by simp) (by simp), fun P' i' hP' hi' _ => ?_⟩
    obtain rfl := padOK_inj hP hP'
    obtain rfl := atOK_inj hi hi'
    exact ⟨ha, fun _ => ⟨rfl, hf⟩, fun z => absurd (hr.symm.trans z) (by decide)⟩
  -- the order is read
  have good : ∀ (st2 : MS) (k a b m : Nat), frm [] [2] st st2 → atOK st2 (rdO P i).2.1 → (rdO P i).1 = true → k ≤ 126 → ((k = 112 ∧ (rdO P i).2.2 = (112, a, 0)) ∨ (k = 115 ∧ (rdO P i).2.2 = (115, a, b)) ∨ (k = 45 ∧ (rdO P i).2.2 = (45, 0, 0)) ∨ (k = 109 ∧ (rdO P i).2.2 = (109, m, 0) ∧ m ≤ 9)) → wX3_order_153 (qX3_order x1 st) x1 (nI k) (nI a) (nI b) (nI m) st2 := by
    intro st2 k a b m hf ha hr hk126 hk
    unfold wX3_order_153 wX3_order_157 wX3_order_161 wX3_order_213
    refine ⟨fun h1 => ?_, fun h1 => ?_⟩
    · rcases hgame with z | ⟨ht, g, hg, hgl⟩
      · exact absurd z h1
      have hg2 := gst_frm hf (by simp) hg
      have ht2 := tabs_frm hf (by simp) (by simp) ht
      have fin : ∀ (r : Int32) (st3 : MS), frm [0, 7, 8, 9, 10] [3, 4] st2 st3 → tabs st3 → r = (doO (rdO P i).2.2 g).1 → gst st3 (doO (rdO P i).2.2 g).2 → qX3_order x1 st r st3 := by
        intro r st3 hf3 ht3 e3 hg3
        refine ⟨(hf.mono (by simp) (by simp)).trans (hf3.mono (by simp) (by simp)), fun P' i' hP' hi' _ => ?_⟩
        obtain rfl := padOK_inj hP hP'
        obtain rfl := atOK_inj hi hi'
        refine ⟨⟨by rw [hf3.2 2 (by simp)]; exact ha.1, ha.2⟩, fun z => absurd (hr.symm.trans z) (by decide), fun _ => ⟨fun z => absurd z h1, fun _ => ⟨ht3, fun g' hg' _ => ?_⟩⟩⟩
        obtain rfl := gst_inj hg hg'
        exact ⟨e3, hg3⟩
      have e112 : (nI k = (112 : Int32)) ↔ k = 112 := ⟨fun z => nI_inj (b := 112) z, fun z => by rw [z]; rfl⟩
      have e115 : (nI k = (115 : Int32)) ↔ k = 115 := ⟨fun z => nI_inj (b := 115) z, fun z => by rw [z]; rfl⟩
      have e45 : (nI k = (45 : Int32)) ↔ k = 45 := ⟨fun z => nI_inj (b := 45) z, fun z => by rw [z]; rfl⟩
      unfold wX3_order_167 wX3_order_175 wX3_order_181 wX3_order_191 wX3_order_197 wX3_order_207 wX3_order_213
      rw [e112, e115, e45]
      refine ⟨fun h2 => ⟨fun h3 => ⟨fun h4 => ?_, fun h4 => ?_⟩, fun h3 => ?_⟩, fun h2 => ?_⟩
      · have h109 : (rdO P i).2.2 = (109, m, 0) ∧ m ≤ 9 := by
          rcases hk with z | z | z | z
          · exact absurd z.1 h2
          · exact absurd z.1 h3
          · exact absurd z.1 h4
          · exact z.2
        obtain ⟨ho, hm9⟩ := h109
        have hd : doO (rdO P i).2.2 g = playsG (nI m) g := by rw [ho]; rfl
        have hpl := plays_len (nI m) g
        refine ⟨⟨ht2, g, hg2, by omega⟩, fun r3 st3 h5 => ?_⟩
        obtain ⟨hf3, ht3, h5q⟩ := h5
        obtain ⟨e3, hg3⟩ := h5q g hg2 (by omega)
        exact fin r3 st3 hf3 ht3 (by rw [hd]; exact e3) (by rw [hd]; exact hg3)
      · have ho : (rdO P i).2.2 = (45, 0, 0) := by
          rcases hk with z | z | z | z
          · exact absurd (z.1.symm.trans h4) (by decide)
          · exact absurd (z.1.symm.trans h4) (by decide)
          · exact z.2
          · exact absurd (z.1.symm.trans h4) (by decide)
        have hd : doO (rdO P i).2.2 g = mvsG 90 false g := by rw [ho]; rfl
        refine ⟨⟨Or.inl rfl, g, hg2, by omega⟩, fun r3 st3 h5 => ?_⟩
        obtain ⟨e3, hg3⟩ := h5.2 g hg2 (by omega)
        exact fin r3 st3 (h5.1.mono (by simp) (by simp)) (tabs_frm h5.1 (by simp) (by simp) ht2) (by rw [hd]; exact e3) (by rw [hd]; exact hg3)
      · have ho : (rdO P i).2.2 = (115, a, b) := by
          rcases hk with z | z | z | z
          · exact absurd (z.1.symm.trans h3) (by decide)
          · exact z.2
          · exact absurd (z.1.symm.trans h3) (by decide)
          · exact absurd (z.1.symm.trans h3) (by decide)
        have hd : doO (rdO P i).2.2 g = slidesG (nI a) (nI b) g := by rw [ho]; rfl
        refine ⟨⟨g, hg2, by omega⟩, fun r3 st3 h5 => ?_⟩
        obtain ⟨e3, hg3⟩ := h5.2 g hg2 (by omega)
        exact fin r3 st3 (h5.1.mono (by simp) (by simp)) (tabs_frm h5.1 (by simp) (by simp) ht2) (by rw [hd]; exact e3) (by rw [hd]; exact hg3)
      · have ho : (rdO P i).2.2 = (112, a, 0) := by
          rcases hk with z | z | z | z
          · exact z.2
          · exact absurd (z.1.symm.trans h2) (by decide)
          · exact absurd (z.1.symm.trans h2) (by decide)
          · exact absurd (z.1.symm.trans h2) (by decide)
        have hd : doO (rdO P i).2.2 g = placesG (nI a) g := by rw [ho]; rfl
        refine ⟨⟨g, hg2, by omega⟩, fun r3 st3 h5 => ?_⟩
        obtain ⟨e3, hg3⟩ := h5.2 g hg2 (by omega)
        exact fin r3 st3 (h5.1.mono (by simp) (by simp)) (tabs_frm h5.1 (by simp) (by simp) ht2) (by rw [hd]; exact e3) (by rw [hd]; exact hg3)
    · refine ⟨hf.mono (by simp) (by simp), fun P' i' hP' hi' _ => ?_⟩
      obtain rfl := padOK_inj hP hP'
      obtain rfl := atOK_inj hi hi'
      exact ⟨ha, fun z => absurd (hr.symm.trans z) (by decide), fun _ => ⟨fun _ => ⟨rfl, hf⟩, fun z => absurd h1 z⟩⟩
  -- signs
  have sgn : ∀ (j lo : Nat) (r : Int32) (s1 s2 : MS), padOK s1 P → atOK s1 j → 0 < lo → lo ≤ 57 → qX3_sign (nI lo) (57 : Int32) s1 r s2 → (if decide (lo ≤ chP P j ∧ chP P j ≤ 57) then r = nI (chP P j - lo) ∧ s2 = mF s1 2 (nI (j + 1)) else r = (-3 : Int32) ∧ s2 = s1) := by
    intro j lo r s1 s2 h1 h2 h3 h4 h5
    have := h5 P j lo 57 h1 h2 rfl rfl (by omega) (by decide)
    rw [dge j lo 57 h3] at this
    exact this
  -- behind the first sign
  have start : wX3_order_24 (qX3_order x1 st) x1 (nI (chP P i)) st := by
    have hc := hcl i
    obtain ⟨c, hcc⟩ : ∃ c, c = chP P i := ⟨_, rfl⟩
    rw [← hcc] at hc ⊢
    have e112 : (nI c = (112 : Int32)) ↔ c = 112 := ⟨fun z => nI_inj (b := 112) z, fun z => by rw [z]; rfl⟩
    have e115 : (nI c = (115 : Int32)) ↔ c = 115 := ⟨fun z => nI_inj (b := 115) z, fun z => by rw [z]; rfl⟩
    have e45 : (nI c = (45 : Int32)) ↔ c = 45 := ⟨fun z => nI_inj (b := 45) z, fun z => by rw [z]; rfl⟩
    have e109 : (nI c = (109 : Int32)) ↔ c = 109 := ⟨fun z => nI_inj (b := 109) z, fun z => by rw [z]; rfl⟩
    have f1 : frm [] [2] st (mF st 2 (nI (i + 1))) := frm_F (frm.refl _ _ _) (by simp)
    have hP1 : padOK (mF st 2 (nI (i + 1))) P := padOK_frm f1 (by simp) (by simp) hP
    have a1 : atOK (mF st 2 (nI (i + 1))) (i + 1) := atOK_set (by omega)
    have step : (c = 112 ∨ c = 115 ∨ c = 45 ∨ c = 109) → wX3_order_52 (qX3_order x1 st) x1 (nI c) st := by
      intro hkind
      unfold wX3_order_52
      rw [hi.1, nI_1, e112]
      -- what comes behind the first number
      have two : ∀ (a : Nat) (s2 : MS), (c = 112 ∨ c = 115) → dg1 (chP P (i + 1)) = true → a = chP P (i + 1) - 49 → frm [] [2] st s2 → atOK s2 (i + 2) → wX3_order_86 (qX3_order x1 st) x1 (nI c) (nI a) s2 := by
        intro a s2 hk hd ea hf2 ha2
        have hdd := of_decide_eq_true hd
        unfold wX3_order_86 wX3_order_108 wX3_order_93 wX3_order_97
        rw [e115]
        refine ⟨fun h5 => ?_, fun h5 => ⟨fun h6 => absurd h6 (nI_pos (by omega)), fun _ => ?_⟩⟩
        · have hc2 : c = 112 := by omega
          have hr : rdO P i = (true, i + 2, (112, chP P (i + 1) - 49, 0)) := by
            unfold rdO
            rw [← hcc, if_pos hc2, if_pos hd]
          unfold wX3_order_109 wX3_order_115 wX3_order_123
          refine ⟨fun h6 => absurd h6 (nI_pos (by omega)), fun _ => ⟨fun _ => ?_, fun h6 => absurd (by decide) h6⟩⟩
          rw [e109]
          refine ⟨fun _ => good s2 c a 0 1 hf2 (by rw [hr]; exact ha2) (by rw [hr]) (by omega) (Or.inl ⟨hc2, by rw [hr, ea]⟩), fun h6 => by omega⟩
        · have hP2 : padOK s2 P := padOK_frm hf2 (by simp) (by simp) hP
          refine ⟨⟨⟨P, i + 2, hP2, ha2⟩, 49, by decide, rfl⟩, fun r6 s6 h6 => ?_⟩
          have h7 := sgn (i + 2) 49 r6 s2 s6 hP2 ha2 (by decide) (by decide) h6
          unfold wX3_order_109 wX3_order_115 wX3_order_120 wX3_order_123
          by_cases hd2 : dg1 (chP P (i + 2)) = true
          · have hdd2 := of_decide_eq_true hd2
            have hr : rdO P i = (true, i + 3, (115, chP P (i + 1) - 49, chP P (i + 2) - 49)) := by
              unfold rdO
              rw [← hcc, if_neg (by omega), if_pos h5, if_pos hd, if_pos hd2]
            rw [show decide (49 ≤ chP P (i + 2) ∧ chP P (i + 2) ≤ 57) = dg1 (chP P (i + 2)) from rfl, if_pos hd2] at h7
            obtain ⟨rfl, rfl⟩ := h7
            refine ⟨fun h8 => absurd h8 (nI_pos (by omega)), fun _ => ⟨fun _ => ?_, fun h8 => absurd (nI_pos' (by omega)) h8⟩⟩
            rw [e109]
            refine ⟨fun _ => good _ c a (chP P (i + 2) - 49) 1 (frm_F hf2 (by simp)) (by rw [hr]; exact atOK_set (by omega)) (by rw [hr]) (by omega) (Or.inr (Or.inl ⟨h5, by rw [hr, ea]⟩)), fun h8 => by omega⟩
          · have hr : rdO P i = (false, i + 2, (0, 0, 0)) := by
              unfold rdO
              rw [← hcc, if_neg (by omega), if_pos h5, if_pos hd, if_neg hd2]
            rw [show decide (49 ≤ chP P (i + 2) ∧ chP P (i + 2) ≤ 57) = dg1 (chP P (i + 2)) from rfl, if_neg hd2] at h7
            obtain ⟨rfl, rfl⟩ := h7
            refine ⟨fun h8 => absurd h8 (nI_pos (by omega)), fun _ => ⟨fun h8 => absurd h8 (by decide), fun _ => ?_⟩⟩
            exact bad _ hf2 (by rw [hr]; exact ha2) (by rw [hr])
      have one : (c = 112 ∨ c = 115) → wX3_order_74 (qX3_order x1 st) x1 (nI c) (mF st 2 (nI (i + 1))) := by
        intro hk
        unfold wX3_order_74
        refine ⟨⟨⟨P, i + 1, hP1, a1⟩, 49, by decide, rfl⟩, fun r4 s4 h4 => ?_⟩
        have h5 := sgn (i + 1) 49 r4 _ s4 hP1 a1 (by decide) (by decide) h4
        by_cases hd : dg1 (chP P (i + 1)) = true
        · rw [show decide (49 ≤ chP P (i + 1) ∧ chP P (i + 1) ≤ 57) = dg1 (chP P (i + 1)) from rfl, if_pos hd] at h5
          obtain ⟨rfl, rfl⟩ := h5
          exact two _ _ hk hd rfl (frm_F f1 (by simp)) (atOK_set (by omega))
        · rw [show decide (49 ≤ chP P (i + 1) ∧ chP P (i + 1) ≤ 57) = dg1 (chP P (i + 1)) from rfl, if_neg hd] at h5
          obtain ⟨rfl, rfl⟩ := h5
          have hr : rdO P i = (false, i + 1, (0, 0, 0)) := by
            unfold rdO
            rcases hk with hk | hk
            · rw [← hcc, if_pos hk, if_neg hd]
            · rw [← hcc, if_neg (by omega), if_pos hk, if_neg hd]
          have hbad := bad _ f1 (by rw [hr]; exact a1) (by rw [hr])
          unfold wX3_order_86 wX3_order_108 wX3_order_93 wX3_order_108 wX3_order_109 wX3_order_120
          refine ⟨fun _ => ⟨fun _ => hbad, fun h6 => absurd (by decide) h6⟩, fun _ => ⟨fun _ => ⟨fun _ => hbad, fun h6 => absurd (by decide) h6⟩, fun h6 => absurd (by decide) h6⟩⟩
      refine ⟨fun h3 => one (Or.inl h3), fun h3 => ?_⟩
      unfold wX3_order_68
      rw [e115]
      refine ⟨fun h4 => ?_, fun h4 => one (Or.inr h4)⟩
      unfold wX3_order_85 wX3_order_86 wX3_order_108 wX3_order_109 wX3_order_115 wX3_order_123
      rw [e115, e109]
      refine ⟨fun _ => ⟨fun h5 => absurd h5 (by decide), fun _ => ⟨fun _ => ⟨fun h5 => ?_, fun h5 => ?_⟩, fun h5 => absurd (by decide) h5⟩⟩, fun h5 => absurd h5 h4⟩
      · have hc2 : c = 45 := by omega
        have hr : rdO P i = (true, i + 1, (45, 0, 0)) := by
          unfold rdO
          rw [← hcc, if_neg h3, if_neg h4, if_pos hc2]
        exact good _ c 0 0 1 f1 (by rw [hr]; exact a1) (by rw [hr]) (by omega) (Or.inr (Or.inr (Or.inl ⟨hc2, by rw [hr]⟩)))
      · unfold wX3_order_132 wX3_order_143
        refine ⟨⟨P, i + 1, hP1, a1⟩, fun r6 h6 => ?_⟩
        have e6 := h6 P (i + 1) hP1 a1
        have e6' : r6 = b2 (dg0 (chP P (i + 1))) := by
          rw [e6]
          congr 1
          rw [show (48 : Int32).toInt = 48 from rfl, show (57 : Int32).toInt = 57 from rfl]
          have := dge (i + 1) 48 57 (by decide)
          unfold dg0
          rw [← this, decide_eq_decide]
          omega
        subst e6'
        refine ⟨fun h7 => ?_, fun h7 => ?_⟩
        · have hr : rdO P i = (true, i + 1, (109, 1, 0)) := by
            unfold rdO
            rw [← hcc, if_neg h3, if_neg h4, if_neg (by omega), if_pos h5, if_neg (by rw [b2_0.mp h7]; simp)]
          exact good _ c 0 0 1 f1 (by rw [hr]; exact a1) (by rw [hr]) (by omega) (Or.inr (Or.inr (Or.inr ⟨h5, by rw [hr], by decide⟩)))
        · have hd := b2_n0.mp h7
          have hdd := of_decide_eq_true hd
          have hr : rdO P i = (true, i + 2, (109, chP P (i + 1) - 48, 0)) := by
            unfold rdO
            rw [← hcc, if_neg h3, if_neg h4, if_neg (by omega), if_pos h5, if_pos hd]
          refine ⟨⟨⟨P, i + 1, hP1, a1⟩, 48, by decide, rfl⟩, fun r8 s8 h8 => ?_⟩
          have h9 := sgn (i + 1) 48 r8 _ s8 hP1 a1 (by decide) (by decide) h8
          have hd' : decide (48 ≤ chP P (i + 1) ∧ chP P (i + 1) ≤ 57) = true := hd
          rw [if_pos hd'] at h9
          obtain ⟨rfl, rfl⟩ := h9
          exact good _ c 0 0 _ (frm_F f1 (by simp)) (by rw [hr]; exact atOK_set (by omega)) (by rw [hr]) (by omega) (Or.inr (Or.inr (Or.inr ⟨h5, by rw [hr], by omega⟩)))
    unfold wX3_order_24 wX3_order_31 wX3_order_37 wX3_order_43 wX3_order_49
    rw [e112, e115, e45, e109]
    refine ⟨fun h1 => step (by omega), fun h1 => ⟨fun h2 => step (by omega), fun h2 => ⟨fun h3 => step (by omega), fun h3 => ⟨fun h4 => step (by omega), fun h4 => ?_⟩⟩⟩⟩
    have hr : rdO P i = (false, i, (0, 0, 0)) := by
      unfold rdO
      rw [← hcc, if_neg h1, if_neg h2, if_neg h3, if_neg h4]
    exact bad st (frm.refl _ _ _) (by rw [hr]; exact hi) (by rw [hr])
  unfold wX3_order_0 wX3_order_23 wX3_order_11
  rw [hP.2.1, hi.1]
  refine ⟨fun h1 => ?_, fun h1 => ?_⟩
  · have := nle_of h1
    rw [chP_out (by omega)] at start
    exact start
  · have hlt : i < P.length := nlt_of h1
    rw [nI_clamp (by omega), (hP.2.2 i hlt).1]
    exact ⟨vin (by omega), start⟩
