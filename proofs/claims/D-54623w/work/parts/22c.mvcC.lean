/-! PROOFS of the wp predicates, group C -/
theorem cur_getD {g : Gm} (h : gok g) : cur g = g.2.2.getD (nmv g) (0, 0, 0) := by
  unfold cur nmv
  rw [List.getLast?_eq_getElem?, List.getD_eq_getElem?_getD]
theorem getD_mem {L : List Bd} {j : Nat} (h : j < L.length) : L.getD j (0, 0, 0) ∈ L := by
  rw [List.getD_eq_getElem?_getD, List.getElem?_eq_getElem h]
  exact List.getElem_mem h
theorem bd_inj {b b' : Bd} (h : bokB b) (h' : bokB b') (e : codB b = codB b') : b = b' := by
  obtain ⟨i1, i2, i3⟩ := cod_inj h h' e
  exact Prod.ext i1 (Prod.ext i2 i3)
theorem len_pos {g : Gm} (h : gok g) : 0 < g.2.2.length := List.length_pos_iff.mpr h.2.2.1
theorem rowOK_inj {row : Nat → Int32} {g g' : Gm} (h : rowOK row g) (h' : rowOK row g') : g = g' := by
  obtain ⟨k1, k2, k3, k4, k5, k6⟩ := h
  obtain ⟨m1, m2, m3, m4, m5, m6⟩ := h'
  have a1 := k1.1
  have a2 := k1.2.1
  have a3 := m1.1
  have a4 := m1.2.1
  have e1 : g.1 = g'.1 := nI_inj (k3.symm.trans m3)
  have e2 : g.2.1 = g'.2.1 := nI_inj (k4.symm.trans m4)
  have p1 := len_pos k1
  have p2 := len_pos m1
  have n1 : nmv g < 7000 := by unfold nmv; omega
  have n2 : nmv g' < 7000 := by unfold nmv; omega
  have e3 : nmv g = nmv g' := nI_inj (k5.symm.trans m5)
  have e4 : g.2.2.length = g'.2.2.length := by unfold nmv at e3; omega
  have e5 : g.2.2 = g'.2.2 := by
    apply List.ext_getElem e4
    intro i h1 h2
    have q1 := k6 i h1
    have q2 := m6 i h2
    have b1 := k1.2.2.2 _ (getD_mem h1)
    have b2 := m1.2.2.2 _ (getD_mem h2)
    have c1 := codB_lt b1.1
    have c2 := codB_lt b2.1
    have := bd_inj b1.1 b2.1 (nI_inj (q1.symm.trans q2))
    rw [List.getD_eq_getElem?_getD, List.getD_eq_getElem?_getD, List.getElem?_eq_getElem h1, List.getElem?_eq_getElem h2] at this
    exact this
  exact Prod.ext e1 (Prod.ext e2 e5)
theorem gst_inj {st : MS} {g g' : Gm} (h : gst st g) (h' : gst st g') : g = g' := rowOK_inj h h'
theorem gst_frm {as fs : List Nat} {st st1 : MS} {g : Gm} (h : frm as fs st st1) (h0 : 0 ∉ as) (hg : gst st g) : gst st1 g := by
  unfold gst
  rw [h.1 0 h0]
  exact hg
theorem gst_sett {st : MS} {g : Gm} (h : gst st g) : sett st g.1 g.2.1 := ⟨h.2.2.1, h.2.2.2.1, h.1.1, h.1.2.1⟩
theorem nmv_lt {st : MS} {g : Gm} (h : gst st g) : nmv g < 7000 := by
  have := len_pos h.1
  have := h.2.1
  unfold nmv
  omega
theorem gst_pnow {st : MS} {g : Gm} (h : gst st g) : pX3_now st := ⟨nmv g, nmv_lt h, h.2.2.2.2.1⟩
theorem gst_now {st : MS} {g : Gm} {r : Int32} (h : gst st g) (hr : qX3_now st r) : r = nI (codB (cur g)) := by
  rw [hr _ (nmv_lt h) h.2.2.2.2.1, h.2.2.2.2.2 (nmv g) (by have := len_pos h.1; unfold nmv; omega), cur_getD h.1]
theorem gst_popen {st st1 : MS} {g : Gm} (h : gst st g) : pX3_open (nI (codB (cur g))) st1 := ⟨_, _, _, (cur_ok h.1).1, rfl⟩
theorem gst_open {st st1 st2 : MS} {g : Gm} (h : gst st g) (ho : qX3_open (nI (codB (cur g))) st1 st2) : opnB st2 (cur g) := ho.2 _ _ _ (cur_ok h.1).1 rfl
theorem vcX3_hasLost (st : MS) (hp : pX3_hasLost st) : wX3_hasLost_0 (qX3_hasLost st) st := by
  obtain ⟨g, hg⟩ := hp
  unfold wX3_hasLost_0 wX3_hasLost_23 wX3_hasLost_19 wX3_hasLost_24
  refine ⟨gst_pnow hg, fun r1 h1 => ?_⟩
  rw [gst_now hg h1]
  refine ⟨gst_popen hg, fun st3 h3 => ?_⟩
  have ho3 := gst_open hg h3
  have hg3 := gst_frm h3.1 (by simp) hg
  refine ⟨⟨⟨_, _, _, ho3⟩, _, _, gst_sett hg3⟩, fun st4 h4 => ?_⟩
  have hl4 : lst st4 (mvC g) := h4.2 _ _ _ _ _ ho3 (gst_sett hg3)
  have ho4 : opnB st4 (cur g) := opn_frm h4.1 (by simp) (by simp) ho3
  have hf4 : frm [7, 8] [3, 4] st st4 := (h3.1.mono (by simp) (by simp)).trans (h4.1.mono (by simp) (by simp))
  have hlen := mvl_len (l := g.2.1) hg.1.1 (cur g)
  have key : ∀ b : Bool, b = lostG g → isB (b2 b) ∧ qX3_hasLost st (b2 b) st4 := by
    intro b e
    refine ⟨isB_b2 b, hf4, fun g' hg' => ?_⟩
    obtain rfl := gst_inj hg hg'
    exact ⟨by rw [e], ho4⟩
  rw [hl4.1]
  refine ⟨fun h5 => key false ?_, fun h5 => key true ?_⟩
  · unfold lostG
    cases hm : mvC g with
    | nil => rw [hm] at h5; exact absurd rfl h5
    | cons a r => rfl
  · have h6 : (mvC g).length < 2147483648 := Nat.lt_of_le_of_lt hlen (by decide)
    have : mvC g = [] := List.eq_nil_of_length_eq_zero (nI_inj (b := 0) h5 h6)
    unfold lostG
    rw [this]; rfl
theorem take_succ_getD {L : List Bd} {j : Nat} (h : j < L.length) : L.take (j + 1) = L.take j ++ [L.getD j (0, 0, 0)] := by
  rw [List.take_succ, List.getD_eq_getElem?_getD, List.getElem?_eq_getElem h]
  rfl
theorem vcX3_often (st : MS) (hp : pX3_often st) : wX3_often_0 (fun (r : Int32) (u : MS) => qX3_often st r ∧ st = u) st := by
  obtain ⟨g, hg⟩ := hp
  have hn := nmv_lt hg
  have hpos := len_pos hg.1
  have hnl : g.2.2.length = nmv g + 1 := by unfold nmv; omega
  unfold wX3_often_0 wX3_often_4
  refine wloop_up g.2.2.length (fun k v => k ≤ g.2.2.length ∧ v = (nI ((g.2.2.take k).countP (fun b => decide (b = cur g))), nI k, st)) 0 ⟨by omega, rfl⟩ ?_
  rintro k v L ⟨hk, rfl⟩ hL
  dsimp only
  unfold wX3_often_4_b wX3_often_43 wX3_often_14 wX3_often_34 wX3_often_30 wX3_often_35
  rw [show ((2 : Int32)).toNatClampNeg = 2 from rfl, hg.2.2.2.2.1, show (3 : Int32) = nI 3 from rfl, nI_add, nI_clamp (n := 3 + k) (by omega), show nI k + (1 : Int32) = nI (k + 1) from nI_1 k]
  refine ⟨vin (n := 2) (by decide), fun h1 => ⟨fun g' hg' => ?_, rfl⟩, fun h1 => ?_⟩
  · obtain rfl := gst_inj hg hg'
    have := nl_of h1
    have : k = g.2.2.length := by omega
    rw [this, List.take_length]
    rfl
  · have hkl : k < g.2.2.length := by have := nge_of h1; omega
    refine ⟨vin (by omega), gst_pnow hg, fun r h2 => ?_⟩
    rw [gst_now hg h2, hg.2.2.2.2.2 k hkl]
    have b1 := hg.1.2.2.2 _ (getD_mem hkl)
    have b2 := cur_ok hg.1
    have c1 := codB_lt b1.1
    have c2 := codB_lt b2.1
    have hcl : (g.2.2.take k).countP (fun b => decide (b = cur g)) ≤ 7000 := Nat.le_trans List.countP_le_length (by rw [List.length_take]; omega)
    refine ⟨fun h3 => hL _ hkl ⟨by omega, ?_⟩, fun h3 => hL _ hkl ⟨by omega, ?_⟩⟩
    · rw [take_succ_getD hkl, List.countP_append]
      have : ¬ g.2.2.getD k (0, 0, 0) = cur g := fun q => h3 (by rw [q])
      simp only [List.countP_singleton, this, decide_false, Bool.false_eq_true, if_false, Nat.add_zero]
      rw [show (0 : Int32) = nI 0 from rfl, nI_add]
      rfl
    · rw [take_succ_getD hkl, List.countP_append]
      have : g.2.2.getD k (0, 0, 0) = cur g := bd_inj b1.1 b2.1 (nI_inj h3)
      simp only [List.countP_singleton, this, decide_true, if_true]
      rw [nI_1]
theorem oft_le {st : MS} {g : Gm} (h : gst st g) : oftG g ≤ 7000 := Nat.le_trans List.countP_le_length h.2.1
theorem vcX3_isOver (st : MS) (hp : pX3_isOver st) : wX3_isOver_0 (qX3_isOver st) st := by
  obtain ⟨g, hg⟩ := hp
  unfold wX3_isOver_0 wX3_isOver_7 wX3_isOver_15 wX3_isOver_19 wX3_isOver_20
  refine ⟨⟨g, hg⟩, fun r1 st2 h1 => ?_⟩
  obtain ⟨e1, -⟩ := h1.2 g hg
  subst e1
  have hg2 := gst_frm h1.1 (by simp) hg
  have key : ∀ b : Bool, b = overG g → isB (b2 b) ∧ qX3_isOver st (b2 b) st2 := by
    intro b e
    refine ⟨isB_b2 b, h1.1, fun g' hg' => ?_⟩
    obtain rfl := gst_inj hg hg'
    rw [e]
  have ho := oft_le hg
  refine ⟨fun h2 => key true ?_, fun h2 => ⟨⟨g, hg2⟩, fun r3 h3 => ?_⟩⟩
  · unfold overG; rw [b2_n0.mp h2]; rfl
  · rw [h3 g hg2]
    refine ⟨fun h4 => key false ?_, fun h4 => key true ?_⟩
    · have : oftG g < 3 := nl_of (b := 3) h4
      unfold overG
      rw [b2_0.mp h2, decide_eq_false (by omega)]; rfl
    · have : 3 ≤ oftG g := nge_of (b := 3) h4
      unfold overG
      rw [decide_eq_true this, Bool.or_true]
theorem vcX3_isDrawn (st : MS) (hp : pX3_isDrawn st) : wX3_isDrawn_0 (qX3_isDrawn st) st := by
  obtain ⟨g, hg⟩ := hp
  have ho := oft_le hg
  unfold wX3_isDrawn_0 wX3_isDrawn_8 wX3_isDrawn_15 wX3_isDrawn_19 wX3_isDrawn_20
  have key : ∀ (b : Bool) (st2 : MS), frm [7, 8] [3, 4] st st2 → b = (decide (3 ≤ oftG g) && !lostG g) → isB (b2 b) ∧ qX3_isDrawn st (b2 b) st2 := by
    intro b st2 hf e
    refine ⟨isB_b2 b, hf, fun g' hg' => ?_⟩
    obtain rfl := gst_inj hg hg'
    rw [e]
  refine ⟨⟨g, hg⟩, fun r1 h1 => ?_⟩
  rw [h1 g hg]
  refine ⟨fun h4 => key false _ (frm.refl _ _ _) ?_, fun h4 => ⟨⟨g, hg⟩, fun r2 st2 h2 => ?_⟩⟩
  · have : oftG g < 3 := nl_of (b := 3) h4
    rw [decide_eq_false (by omega)]; rfl
  · have : 3 ≤ oftG g := nge_of (b := 3) h4
    obtain ⟨e1, -⟩ := h2.2 g hg
    subst e1
    refine ⟨fun h5 => key false _ h2.1 ?_, fun h5 => key true _ h2.1 ?_⟩
    · rw [b2_n0.mp h5]; simp
    · rw [b2_0.mp h5, decide_eq_true this]; rfl
theorem vcX3_lookNow (st : MS) (hp : pX3_lookNow st) : wX3_lookNow_0 (qX3_lookNow st) st := by
  obtain ⟨g, hg⟩ := hp
  unfold wX3_lookNow_0 wX3_lookNow_26 wX3_lookNow_22 wX3_lookNow_30
  refine ⟨⟨g, hg⟩, fun r1 st2 h1 => ?_⟩
  have e1 := h1.2 g hg
  subst e1
  have hg2 := gst_frm h1.1 (by simp) hg
  refine ⟨gst_pnow hg2, fun r3 h3 => ?_⟩
  rw [gst_now hg2 h3]
  refine ⟨gst_popen hg2, fun st5 h5 => ?_⟩
  have ho5 := gst_open hg2 h5
  have hg5 := gst_frm h5.1 (by simp) hg2
  refine ⟨⟨⟨_, _, _, ho5⟩, _, _, gst_sett hg5⟩, fun st6 h6 => ?_⟩
  have hl6 : lst st6 (mvC g) := h6.2 _ _ _ _ _ ho5 (gst_sett hg5)
  have ho6 : opnB st6 (cur g) := opn_frm h6.1 (by simp) (by simp) ho5
  have hf6 : frm [7, 8] [3, 4] st st6 := (h1.1.trans (h5.1.mono (by simp) (by simp))).trans (h6.1.mono (by simp) (by simp))
  have key : ∀ v : Int32, lst (mF st6 4 v) (mvG g) → qX3_lookNow st (mF st6 4 v) := by
    intro v hl
    refine ⟨frm_F hf6 (by simp), fun g' hg' => ?_⟩
    obtain rfl := gst_inj hg hg'
    exact ⟨opn_frm (frm_F (frm.refl [] [4] st6) (by simp)) (by simp) (by simp) ho6, hl⟩
  refine ⟨fun h7 => key _ ?_, fun h7 => key _ ?_⟩
  · unfold mvG
    rw [b2_0.mp h7, if_neg (by simp)]
    exact ⟨by rw [mF_self]; exact hl6.1, hl6.2⟩
  · unfold mvG
    rw [b2_n0.mp h7, if_pos rfl]
    exact ⟨by rw [mF_self]; rfl, fun j hj => absurd hj (by simp)⟩
theorem mvG_len {g : Gm} (h : gok g) : (mvG g).length ≤ 33 := by
  unfold mvG
  split
  · simp
  · exact mvl_len h.1 _
theorem ask_any {g : Gm} {x : Int32} : (askG g x).isSome = (mvG g).any (fun q => decide (nI q = x)) := by
  unfold askG
  rw [Bool.eq_iff_iff, List.find?_isSome, List.any_eq_true]
theorem vcX3_isMove (x1 : Int32) (st : MS) (hp : pX3_isMove x1 st) : wX3_isMove_0 (qX3_isMove x1 st) x1 st := by
  obtain ⟨g, hg⟩ := hp
  unfold wX3_isMove_0
  refine ⟨⟨g, hg⟩, fun st1 h1 => ?_⟩
  obtain ⟨ho1, hl1⟩ := h1.2 g hg
  have hlen := mvG_len hg.1
  have key : ∀ b : Bool, b = (askG g x1).isSome → isB (b2 b) ∧ qX3_isMove x1 st (b2 b) st1 := by
    intro b e
    refine ⟨isB_b2 b, h1.1, fun g' hg' => ?_⟩
    obtain rfl := gst_inj hg hg'
    rw [e]
  rw [ask_any] at key
  generalize mvG g = M at *
  unfold wX3_isMove_6
  refine wloop_up M.length (fun k v => k ≤ M.length ∧ v = (x1, nI k, st1) ∧ ∀ i, i < k → ¬ nI (M.getD i 0) = x1) 0 ⟨by omega, rfl, fun i hi => by omega⟩ ?_
  rintro k v L ⟨hk, rfl, hno⟩ hL
  dsimp only
  unfold wX3_isMove_6_b wX3_isMove_32 wX3_isMove_14 wX3_isMove_26 wX3_isMove_24
  rw [hl1.1, nI_clamp (n := k) (by omega), show nI k + (1 : Int32) = nI (k + 1) from nI_1 k]
  refine ⟨fun h2 => key false ?_, fun h2 => ?_⟩
  · have : M.length ≤ k := nle_of h2
    symm
    rw [List.any_eq_false]
    intro q hq
    obtain ⟨i, hi, rfl⟩ := List.getElem_of_mem hq
    have := hno i (by omega)
    rw [List.getD_eq_getElem?_getD, List.getElem?_eq_getElem hi] at this
    simpa using this
  · have hkl : k < M.length := nlt_of h2
    rw [hl1.2 k hkl]
    refine ⟨vin (by omega), fun h3 => hL _ hkl ⟨by omega, rfl, fun i hi => ?_⟩, fun h3 => key true ?_⟩
    · rcases (show i = k ∨ i < k by omega) with rfl | q
      · exact h3
      · exact hno i q
    · symm
      rw [List.any_eq_true]
      exact ⟨_, mem_getD hkl, by simpa using h3⟩
