theorem getD_app1 {L : List Bd} {b : Bd} {k : Nat} (h : k < L.length) : (L ++ [b]).getD k (0, 0, 0) = L.getD k (0, 0, 0) := by
  rw [List.getD_eq_getElem?_getD, List.getD_eq_getElem?_getD, List.getElem?_append_left h]
theorem getD_app2 {L : List Bd} {b : Bd} : (L ++ [b]).getD L.length (0, 0, 0) = b := by
  rw [List.getD_eq_getElem?_getD, List.getElem?_append_right (Nat.le_refl _)]
  simp
theorem vcX3_goes (x1 : Int32) (st : MS) (hp : pX3_goes x1 st) : wX3_goes_0 (qX3_goes x1 st) x1 st := by
  obtain ⟨g, q, hg, hlt, hq, rfl⟩ := hp
  have hn := nmv_lt hg
  have hpos := len_pos hg.1
  have hc := cur_ok hg.1
  have hm := isMv_okm (mem_mvl.mp hq).2
  unfold wX3_goes_0
  refine ⟨gst_pnow hg, fun r1 h1 => ?_⟩
  rw [gst_now hg h1]
  refine ⟨gst_popen hg, fun st3 h3 => ?_⟩
  have ho3 := gst_open hg h3
  refine ⟨⟨_, _, _, q, ho3, rfl, hm⟩, fun r4 st5 h5 => ?_⟩
  obtain ⟨h5f, h5q⟩ := h5
  obtain ⟨-, -, e4⟩ := h5q _ _ _ q ho3 rfl hm
  have e4 : r4 = nI (codB (nxb (cur g) q)) := e4
  subst e4
  have hf5 : frm [7] [3] st st5 := h3.1.trans h5f
  have e0 : st5.1 0 = st.1 0 := hf5.1 0 (by simp)
  have hnm : nmv g = g.2.2.length - 1 := rfl
  rw [show ((2 : Int32)).toNatClampNeg = 2 from rfl, mA_self, pk_us, e0, hg.2.2.2.2.1, nI_1, show (3 : Int32) = nI 3 from rfl, nI_add, nI_clamp (by omega)]
  refine ⟨vin (n := 2) (by decide), vin (n := 2) (by decide), vin (n := 2) (by decide), vin (by omega), frm_A (frm_A (hf5.mono (by simp) (by simp)) (by simp)) (by simp), ?_⟩
  intro g' q' hg' hlt' hq' e
  obtain rfl := gst_inj hg hg'
  have a1 := (mem_mvl.mp hq).1
  have a2 := (mem_mvl.mp hq').1
  obtain rfl : q = q' := nI_inj e
  unfold gst
  rw [mA_self, mA_self, e0]
  have hlen : (goG g q).2.2.length = g.2.2.length + 1 := by simp [goG]
  refine ⟨gok_go hg.1 hq, by omega, ?_, ?_, ?_, fun k hk => ?_⟩
  · rw [pk_un (by omega), pk_un (by omega)]; exact hg.2.2.1
  · rw [pk_un (by omega), pk_un (by omega)]; exact hg.2.2.2.1
  · rw [pk_un (by omega), pk_us]
    congr 1
    unfold nmv
    omega
  · rw [hlen] at hk
    by_cases ek : k = g.2.2.length
    · subst ek
      rw [show 3 + g.2.2.length = 3 + (nmv g + 1) by omega, pk_us]
      congr 2
      exact getD_app2.symm
    · rw [pk_un (by omega), pk_un (by omega), hg.2.2.2.2.2 k (by omega)]
      congr 2
      exact (getD_app1 (by omega)).symm
theorem vcX3_anew (st : MS) (hp : pX3_anew st) : wX3_anew_0 (qX3_anew st) st := by
  unfold wX3_anew_0 wX3_anew_2
  refine wloop_up 7003 (fun k v => 2 ≤ k ∧ k ≤ 7003 ∧ v.1 = nI k ∧ frm [0] [] st v.2 ∧ v.2.1 0 0 = st.1 0 0 ∧ v.2.1 0 1 = st.1 0 1 ∧ ∀ j, 2 ≤ j → j < k → v.2.1 0 j = 0) 2 ⟨by omega, by omega, rfl, frm.refl _ _ _, rfl, rfl, fun j h1 h2 => by omega⟩ ?_
  rintro k ⟨x, s1⟩ L ⟨h1, h2, h3, h4, h5, h6, h7⟩ hL
  dsimp only at *
  subst h3
  unfold wX3_anew_2_b wX3_anew_22 wX3_anew_9
  rw [nI_clamp (n := k) (by omega), show nI k + (1 : Int32) = nI (k + 1) from nI_1 k]
  refine ⟨fun hc => ?_, fun hc => ?_⟩
  · have : 7003 ≤ k := nle_of (a := 7003) hc
    obtain rfl : k = 7003 := by omega
    exact ⟨h4, h5, h6, h7⟩
  · have hk : k < 7003 := nlt_of (a := 7003) hc
    refine ⟨vin hk, hL _ hk ⟨by omega, by omega, rfl, frm_A h4 (by simp), ?_, ?_, fun j j1 j2 => ?_⟩⟩
    · rw [mA_self, pk_un (by omega)]; exact h5
    · rw [mA_self, pk_un (by omega)]; exact h6
    · rw [mA_self]
      by_cases e : j = k
      · subst e; rw [pk_us]
      · rw [pk_un e]; exact h7 j j1 (by omega)
theorem finC_cod {d l : Nat} {b : Bd} (hb : bokB b) (hg : legB d b = true) : finC d l (codB b) = iI (wrb d l b) := by
  unfold finC
  rw [bOf_cod hb, if_pos hg]
theorem vcX3_bestMove (st : MS) (hp : pX3_bestMove st) : wX3_bestMove_0 (qX3_bestMove st) st := by
  obtain ⟨ht, g, hg, hov⟩ := hp
  have hc := cur_ok hg.1
  have hbm := best_mem hg.1 hov
  have hwr := wrb_rng (l := g.2.1) hg.1.1 hg.1.2.1 hc.1 hc.2
  have hMG : mvG g = mvC g := by unfold mvG; rw [hov]; rfl
  unfold wX3_bestMove_0
  refine ⟨gst_pnow hg, fun r1 h1 => ?_⟩
  rw [gst_now hg h1]
  refine ⟨⟨⟨⟨_, _, gst_sett hg⟩, ht⟩, _, codB_lt hc.1, rfl⟩, fun r3 st4 h3 => ?_⟩
  obtain ⟨hf4, ht4, h3q⟩ := h3
  obtain ⟨e3, hmd⟩ := h3q _ _ _ (gst_sett hg) (codB_lt hc.1) rfl
  have e3 : r3 = iI (wG g) := e3.trans (finC_cod hc.1 hc.2)
  subst e3
  have hw : -11 ≤ wG g ∧ wG g ≤ 10 := hwr
  have hg4 := gst_frm hf4 (by simp) hg
  -- the search
  have run : wX3_bestMove_30 (qX3_bestMove st) (iI (due (wG g))) st4 := by
    unfold wX3_bestMove_30
    refine ⟨⟨g, hg4⟩, fun st5 h5 => ?_⟩
    obtain ⟨ho5, hl5⟩ := h5.2 g hg4
    rw [hMG] at hl5
    have hf5 : frm [7, 8, 9, 10] [3, 4] st st5 := hf4.trans (h5.1.mono (by simp) (by simp))
    have ht5 := tabs_frm h5.1 (by simp) (by simp) ht4
    have hlen : (mvC g).length ≤ 33 := mvl_len hg.1.1 _
    unfold wX3_bestMove_37
    refine wloop_up (mvC g).length (fun k v => k ≤ (mvC g).length ∧ ∃ s6, v = (iI (due (wG g)), nI k, s6) ∧ frm [7, 8, 9, 10] [3, 4] st s6 ∧ tabs s6 ∧ s6.1 10 (2 * g.1 + g.2.1) = 1 ∧ opnB s6 (cur g) ∧ lst s6 (mvC g) ∧ ∀ i, i < k → ¬ wB g ((mvC g).getD i 0) = due (wG g)) 0 ⟨by omega, st5, rfl, hf5, ht5, (by rw [h5.1.1 10 (by simp)]; exact hmd), ho5, hl5, fun i hi => by omega⟩ ?_
    rintro k v L ⟨hk, s6, rfl, hf6, ht6, hm6, ho6, hl6, hno⟩ hL
    dsimp only
    unfold wX3_bestMove_37_b wX3_bestMove_82 wX3_bestMove_45 wX3_bestMove_69 wX3_bestMove_76
    rw [hl6.1]
    refine ⟨fun h7 => ?_, fun h7 => ?_⟩
    · have : (mvC g).length ≤ k := nle_of h7
      obtain ⟨i, hi, e⟩ := List.getElem_of_mem hbm.1
      have := hno i (by omega)
      rw [List.getD_eq_getElem?_getD, List.getElem?_eq_getElem hi] at this
      rw [Option.getD_some, e] at this
      exact absurd hbm.2 this
    · have hkl : k < (mvC g).length := nlt_of h7
      have hg6 := gst_frm hf6 (by simp) hg
      have hq := mem_getD hkl
      have hmq := isMv_okm (mem_mvl.mp hq).2
      have hb2 := nxb_bok hc.1 hmq
      have hl2 := nxb_legal hc.1 hc.2 hq
      have hcb := codB_lt hb2
      have hd := hg.1.1
      have hl := hg.1.2.1
      refine ⟨⟨⟨_, _, gst_sett hg6⟩, ht6⟩, fun r7 s7 h8 => ?_⟩
      obtain ⟨hf7, ht7, h8q⟩ := h8
      obtain ⟨e7, hv7, -, hsm⟩ := h8q _ _ (gst_sett hg6)
      subst e7
      obtain rfl : s7 = s6 := hsm (by rw [hm6]; decide)
      rw [nI_clamp (n := k) (by omega), hl6.2 k hkl]
      refine ⟨vin (by omega), ⟨_, _, _, _, ho6, rfl, hmq⟩, fun r9 s9 h9 => ?_⟩
      obtain ⟨h9f, h9q⟩ := h9
      obtain ⟨ho9, -, e9⟩ := h9q _ _ _ _ ho6 rfl hmq
      have e9 : r9 = nI (codB (nxb (cur g) ((mvC g).getD k 0))) := e9
      subst e9
      have hf9 : frm [7, 8, 9, 10] [3, 4] st s9 := hf6.trans (h9f.mono (by simp) (by simp))
      have hwr2 := wrb_rng hd hl hb2 hl2
      rw [nI_add, nI_clamp (n := 39366 * (2 * g.1 + g.2.1) + codB (nxb (cur g) ((mvC g).getD k 0))) (by omega), h9f.1 9 (by simp), hv7 _ hcb, finC_cod hb2 hl2, show nI k + (1 : Int32) = nI (k + 1) from nI_1 k]
      have hdue : -20 ≤ due (wG g) ∧ due (wG g) ≤ 20 := by
        unfold due
        split
        · omega
        · split <;> omega
      have heq : (iI (wrb g.1 g.2.1 (nxb (cur g) ((mvC g).getD k 0))) = iI (due (wG g))) ↔ wB g ((mvC g).getD k 0) = due (wG g) := iI_eq
      rw [heq]
      refine ⟨vin (by omega), fun h10 => hL _ hkl ⟨by omega, s9, rfl, hf9, tabs_frm h9f (by simp) (by simp) ht6, by rw [h9f.1 10 (by simp)]; exact hm6, ho9, lst_frm h9f (by simp) (by simp) hl6, fun i hi => ?_⟩, fun h10 => ⟨vin (by omega), hf9, tabs_frm h9f (by simp) (by simp) ht6, fun g' hg' _ => ?_⟩⟩
      · rcases (show i = k ∨ i < k by omega) with rfl | q
        · exact h10
        · exact hno i q
      · obtain rfl := gst_inj hg hg'
        rw [h9f.1 8 (by simp), hl6.2 k hkl]
        congr 1
        unfold bestG
        have hfind : (mvC g).find? (fun q => decide (wB g q = due (wG g))) = some ((mvC g).getD k 0) := by
          rw [List.find?_eq_some_iff_getElem]
          refine ⟨by simpa using h10, k, hkl, ?_, fun j hj => ?_⟩
          · rw [List.getD_eq_getElem?_getD, List.getElem?_eq_getElem hkl]; rfl
          · have := hno j hj
            rw [List.getD_eq_getElem?_getD, List.getElem?_eq_getElem (by omega)] at this
            simpa using this
        rw [hfind]
        rfl
  unfold wX3_bestMove_17 wX3_bestMove_13 wX3_bestMove_21 wX3_bestMove_26
  rw [show (0 : Int32) = iI 0 from rfl, iI_eq, iI_le, iI_neg, show (-2 : Int32) = iI (-2) from rfl, iI_sub]
  unfold due at run
  refine ⟨fun h1 => ⟨fun h2 => ?_, fun h2 => ?_⟩, fun h1 => ?_⟩
  · rw [if_neg h1, if_neg (by omega)] at run
    exact run
  · rw [if_neg h1, if_pos (by omega)] at run
    exact run
  · rw [if_pos h1] at run
    exact run
theorem ask_mem {g : Gm} {x : Int32} {q : Nat} (h : askG g x = some q) : q ∈ mvG g ∧ nI q = x := by
  unfold askG at h
  exact ⟨List.mem_of_find?_eq_some h, by simpa using List.find?_some h⟩
theorem vcX3_moves (x1 x2 : Int32) (st : MS) (hp : pX3_moves x1 x2 st) : wX3_moves_0 (qX3_moves x1 x2 st) x1 x2 st := by
  obtain ⟨hx2, g, hg, hlt⟩ := hp
  unfold wX3_moves_0
  refine ⟨⟨g, hg⟩, fun r1 st2 h1 => ?_⟩
  have e1 := h1.2 g hg
  subst e1
  have hg2 := gst_frm h1.1 (by simp) hg
  refine ⟨fun h2 => ?_, fun h2 => ?_⟩
  · have h3 := b2_n0.mp h2
    obtain ⟨q, hq⟩ := Option.isSome_iff_exists.mp h3
    obtain ⟨hqm, rfl⟩ := ask_mem hq
    have hqc := mvG_mvC hqm
    have hc := cur_ok hg.1
    have hcl := codB_lt hc.1
    unfold wX3_moves_11 wX3_moves_45 wX3_moves_37 wX3_moves_49
    refine ⟨gst_pnow hg2, fun r3 h3 => ?_⟩
    rw [gst_now hg2 h3]
    refine ⟨⟨g, q, hg2, hlt, hqc, rfl⟩, fun st4 h4 => ?_⟩
    have hg4 := h4.2 g q hg2 hlt hqc rfl
    refine ⟨gst_pnow hg4, fun r5 h5 => ?_⟩
    rw [gst_now hg4 h5]
    refine ⟨gst_popen hg4, fun st6 h6 => ?_⟩
    have ho6 := gst_open hg4 h6
    have hg6 := gst_frm h6.1 (by simp) hg4
    rw [cur_go] at ho6
    have hf6 : frm [0, 7, 8] [3, 4] st st6 := ((h1.1.mono (by simp) (by simp)).trans (h4.1.mono (by simp) (by simp))).trans (h6.1.mono (by simp) (by simp))
    have hmv : (cur g).2.2 < 2 := hc.1.2.2.2
    have hpl : nI (codB (cur g)) / (19683 : Int32) = nI (cur g).2.2 := by
      rw [show (19683 : Int32) = nI 19683 from rfl, pk_div (by omega) (by decide) (by decide)]
      congr 1
      have := trn_lt hc.1.2.2.1 9
      have h9 : (3 : Nat) ^ 9 = 19683 := by decide
      unfold codB cod
      omega
    have fin : ∀ r : Int32, r = (mvsG (nI q) (decide (x2 ≠ 0)) g).1 → qX3_moves (nI q) x2 st r st6 := by
      intro r e
      refine ⟨hf6, fun g' hg' _ => ?_⟩
      obtain rfl := gst_inj hg hg'
      refine ⟨e, ?_⟩
      unfold mvsG
      rw [hq]
      exact hg6
    have hm : mvsG (nI q) (decide (x2 ≠ 0)) g = (if decide (x2 ≠ 0) then nI (cnt (app (meB (cur g)) q)) else nI (1 - (cur g).2.2), goG g q) := by
      unfold mvsG
      rw [hq]
    refine ⟨fun h7 => fin _ ?_, fun h7 => ?_⟩
    · rw [hm]
      simp only [h7, ne_eq, not_true_eq_false, decide_false, Bool.false_eq_true, if_false]
      rw [ho6.2.2]
      congr 1
      unfold nxb
      split
      · rename_i e; rw [e]
      · rename_i e
        have : (cur g).2.2 = 1 := by omega
        rw [this]
    · rw [hpl]
      refine ⟨⟨⟨_, _, _, ho6⟩, _, hmv, rfl⟩, fun r7 h8 => fin _ ?_⟩
      rw [hm, h8 _ _ _ _ ho6 hmv rfl]
      simp only [h7, ne_eq, not_false_eq_true, decide_true, if_true]
      congr 2
      unfold nxb meB sid
      rcases (show (cur g).2.2 = 0 ∨ (cur g).2.2 = 1 by omega) with e | e <;> simp [e]
  · have h3 := b2_0.mp h2
    unfold wX3_moves_8
    refine ⟨h1.1.mono (by simp) (by simp), fun g' hg' _ => ?_⟩
    obtain rfl := gst_inj hg hg'
    have hn : askG g x1 = none := by simpa using h3
    unfold mvsG
    rw [hn]
    exact ⟨rfl, hg2⟩
theorem in_09 {x r : Int32} (h : qX3_in x.toInt64 (0 : Int32) (8 : Int32) r) : r = b2 (in09 x) := by
  unfold qX3_in at h
  rw [h, Int32.toInt_toInt64]
  rfl
theorem vcX3_places (x1 : Int32) (st : MS) (hp : pX3_places x1 st) : wX3_places_0 (qX3_places x1 st) x1 st := by
  obtain ⟨g, hg, hlt⟩ := hp
  unfold wX3_places_0 wX3_places_11 wX3_places_20 wX3_places_21
  intro r1 h1
  rw [in_09 h1]
  refine ⟨fun h2 => ?_, fun h2 => ⟨⟨Or.inr rfl, g, hg, hlt⟩, fun r2 st2 h3 => ?_⟩⟩
  · have h3 := b2_0.mp h2
    refine ⟨frm.refl _ _ _, fun g' hg' _ => ?_⟩
    obtain rfl := gst_inj hg hg'
    unfold placesG
    rw [h3]
    exact ⟨rfl, hg⟩
  · have h4 := b2_n0.mp h2
    refine ⟨h3.1, fun g' hg' hlt' => ?_⟩
    unfold placesG
    rw [h4]
    exact h3.2 g' hg' hlt'
theorem vcX3_slides (x1 x2 : Int32) (st : MS) (hp : pX3_slides x1 x2 st) : wX3_slides_0 (qX3_slides x1 x2 st) x1 x2 st := by
  obtain ⟨g, hg, hlt⟩ := hp
  unfold wX3_slides_0 wX3_slides_11 wX3_slides_22 wX3_slides_39 wX3_slides_40
  have bad : (in09 x1 && in09 x2) = false → qX3_slides x1 x2 st (-1 : Int32) st := by
    intro h
    refine ⟨frm.refl _ _ _, fun g' hg' _ => ?_⟩
    obtain rfl := gst_inj hg hg'
    unfold slidesG
    rw [h]
    exact ⟨rfl, hg⟩
  intro r1 h1
  rw [in_09 h1]
  refine ⟨fun h2 => bad (by rw [b2_0.mp h2]; rfl), fun h2 r2 h3 => ?_⟩
  rw [in_09 h3]
  refine ⟨fun h4 => bad (by rw [b2_0.mp h4, Bool.and_false]), fun h4 => ⟨⟨Or.inl rfl, g, hg, hlt⟩, fun r5 st5 h5 => ?_⟩⟩
  refine ⟨h5.1, fun g' hg' hlt' => ?_⟩
  unfold slidesG
  rw [b2_n0.mp h2, b2_n0.mp h4]
  exact h5.2 g' hg' hlt'
theorem vcX3_plays (x1 : Int32) (st : MS) (hp : pX3_plays x1 st) : wX3_plays_0 (qX3_plays x1 st) x1 st := by
  obtain ⟨ht, g, hg, hlen⟩ := hp
  unfold wX3_plays_0
  intro r1 h1
  have e1 : r1 = b2 (decide (1 ≤ x1.toInt ∧ x1.toInt ≤ 60)) := by
    unfold qX3_in at h1
    rw [h1, Int32.toInt_toInt64]
    rfl
  subst e1
  refine ⟨fun h2 => ?_, fun h2 => ?_⟩
  · have h3 := b2_n0.mp h2
    have h3' := of_decide_eq_true h3
    unfold wX3_plays_14
    refine ⟨⟨g, hg⟩, fun r4 st4 h4 => ?_⟩
    have e4 := h4.2 g hg
    subst e4
    have hg4 := gst_frm h4.1 (by simp) hg
    have ht4 := tabs_frm h4.1 (by simp) (by simp) ht
    have hf4 : frm [0, 7, 8, 9, 10] [3, 4] st st4 := h4.1.mono (by simp) (by simp)
    refine ⟨fun h5 => ?_, fun h5 => ?_⟩
    · have ho := b2_0.mp h5
      have hP : playsG x1 g = (nI (playN x1.toInt.toNat g).1, (playN x1.toInt.toNat g).2) := by
        unfold playsG
        rw [h3, if_pos rfl, ho, if_neg (by simp)]
      rw [hP] at hlen
      have hx : x1 = nI x1.toInt.toNat := by
        rw [iI_nI, Int.toNat_of_nonneg (by omega)]
        exact (Int32.ofInt_toInt x1).symm
      generalize hN : x1.toInt.toNat = N at *
      have hN60 : N ≤ 60 := by omega
      unfold wX3_plays_24 wX3_plays_26
      rw [hx]
      refine wloop_up N (fun k v => k ≤ N ∧ ∃ (s5 : MS) (g5 : Gm), v = (nI N, nI k, s5) ∧ frm [0, 7, 8, 9, 10] [3, 4] st s5 ∧ tabs s5 ∧ gst s5 g5 ∧ (playN N g).1 = k + (playN (N - k) g5).1 ∧ (playN N g).2 = (playN (N - k) g5).2) 0 ⟨by omega, st4, g, rfl, hf4, ht4, hg4, by simp, by simp⟩ ?_
      rintro k v L ⟨hk, s5, g5, rfl, hf5, ht5, hg5, hp1, hp2⟩ hL
      dsimp only
      unfold wX3_plays_26_b wX3_plays_52 wX3_plays_31 wX3_plays_38
      rw [show nI k + (1 : Int32) = nI (k + 1) from nI_1 k]
      have fin : ∀ s6, frm [0, 7, 8, 9, 10] [3, 4] st s6 → tabs s6 → gst s6 g5 → playN (N - k) g5 = (0, g5) → qX3_plays (nI N) st (nI k) s6 := by
        intro s6 hf6 ht6 hg6 he
        refine ⟨hf6, ht6, fun g' hg' _ => ?_⟩
        obtain rfl := gst_inj hg hg'
        rw [← hx, hP]
        dsimp only
        rw [hp1, hp2, he]
        exact ⟨rfl, hg6⟩
      refine ⟨fun h6 => ?_, fun h6 => ⟨⟨g5, hg5⟩, fun r7 s7 h7 => ?_⟩⟩
      · have : N ≤ k := nle_of h6
        refine fin s5 hf5 ht5 hg5 ?_
        rw [show N - k = 0 by omega]
        rfl
      · have hkN : k < N := nlt_of h6
        have e7 := h7.2 g5 hg5
        subst e7
        have hg7 := gst_frm h7.1 (by simp) hg5
        have ht7 := tabs_frm h7.1 (by simp) (by simp) ht5
        have hf7 : frm [0, 7, 8, 9, 10] [3, 4] st s7 := hf5.trans (h7.1.mono (by simp) (by simp))
        obtain ⟨m, hm⟩ : ∃ m, N - k = m + 1 := ⟨N - k - 1, by omega⟩
        refine ⟨fun h8 => fin s7 hf7 ht7 hg7 ?_, fun h8 => ?_⟩
        · rw [hm, playN, if_pos (b2_n0.mp h8)]
        · have ho5 := b2_0.mp h8
          have hstep : playN (N - k) g5 = ((playN m (goG g5 (bestG g5))).1 + 1, (playN m (goG g5 (bestG g5))).2) := by
            rw [hm, playN, if_neg (by rw [ho5]; simp)]
          have hl5 : g5.2.2.length < 7000 := by
            have a1 := play_len (goG g5 (bestG g5)) m
            have a2 : (goG g5 (bestG g5)).2.2.length = g5.2.2.length + 1 := by simp [goG]
            dsimp only at hlen
            rw [hp2, hstep] at hlen
            dsimp only at hlen
            omega
          refine ⟨⟨ht7, g5, hg7, ho5⟩, fun r9 s9 h9 => ?_⟩
          obtain ⟨hf9, ht9, h9q⟩ := h9
          have e9 := h9q g5 hg7 ho5
          subst e9
          have hg9 := gst_frm hf9 (by simp) hg7
          have hbm := (best_mem hg5.1 ho5).1
          refine ⟨⟨g5, bestG g5, hg9, hl5, hbm, rfl⟩, fun s10 h10 => ?_⟩
          have hg10 := h10.2 g5 _ hg9 hl5 hbm rfl
          refine hL _ hkN ⟨by omega, s10, goG g5 (bestG g5), rfl, (hf7.trans (hf9.mono (by simp) (by simp))).trans (h10.1.mono (by simp) (by simp)), tabs_frm h10.1 (by simp) (by simp) ht9, hg10, ?_, ?_⟩
          · rw [hp1, hstep, show N - (k + 1) = m by omega]
            dsimp only
            omega
          · rw [hp2, hstep, show N - (k + 1) = m by omega]
    · unfold wX3_plays_21
      refine ⟨hf4, ht4, fun g' hg' _ => ?_⟩
      obtain rfl := gst_inj hg hg'
      unfold playsG
      rw [h3, if_pos rfl, b2_n0.mp h5, if_pos rfl]
      exact ⟨rfl, hg4⟩
  · have h3 := b2_0.mp h2
    unfold wX3_plays_11
    refine ⟨frm.refl _ _ _, ht, fun g' hg' _ => ?_⟩
    obtain rfl := gst_inj hg hg'
    unfold playsG
    rw [h3, if_neg (by simp)]
    exact ⟨rfl, hg⟩
