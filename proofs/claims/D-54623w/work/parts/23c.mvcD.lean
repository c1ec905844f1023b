/-! PROOFS of the wp predicates, group D: history and orders -/
theorem rowOK_congr {r r' : Nat → Int32} {g : Gm} (h : ∀ k, k < 7003 → r' k = r k) (hr : rowOK r g) : rowOK r' g := by
  obtain ⟨k1, k2, k3, k4, k5, k6⟩ := hr
  refine ⟨k1, k2, by rw [h 0 (by decide)]; exact k3, by rw [h 1 (by decide)]; exact k4, by rw [h 2 (by decide)]; exact k5, fun k hk => ?_⟩
  rw [h (3 + k) (by omega)]
  exact k6 k hk
theorem pastOK_frm {as fs : List Nat} {st st1 : MS} {ps : List Gm} (h : frm as fs st st1) (h1 : 1 ∉ as) (h0 : 0 ∉ fs) (hp : pastOK st ps) : pastOK st1 ps := ⟨hp.1, by rw [h.2 0 h0]; exact hp.2.1, fun i hi => by rw [h.1 1 h1]; exact hp.2.2 i hi⟩
theorem slotOK_frm {as fs : List Nat} {st st1 : MS} {sv : Nat → Option Gm} (h : frm as fs st st1) (h3 : 3 ∉ as) (h4 : 4 ∉ as) (hp : slotOK st sv) : slotOK st1 sv := fun j hj => by rw [h.1 3 h3, h.1 4 h4]; exact hp j hj
theorem padOK_frm {as fs : List Nat} {st st1 : MS} {P : List Nat} (h : frm as fs st st1) (h5 : 5 ∉ as) (h1 : 1 ∉ fs) (hp : padOK st P) : padOK st1 P := ⟨hp.1, by rw [h.2 1 h1]; exact hp.2.1, fun i hi => by rw [h.1 5 h5]; exact hp.2.2 i hi⟩
theorem mOK_frm {as fs : List Nat} {st st1 : MS} {S : SS} (h : frm as fs st st1) (ha : ∀ k ∈ as, k = 2 ∨ k = 6 ∨ k = 7 ∨ k = 8) (hf : ∀ k ∈ fs, k = 2 ∨ k = 3 ∨ k = 4) (hm : mOK st S) : mOK st1 S := by
  have na : ∀ k, k ∉ [2, 6, 7, 8] → k ∉ as := fun k hk q => hk (by rcases ha k q with e | e | e | e <;> simp [e])
  have nf : ∀ k, k ∉ [2, 3, 4] → k ∉ fs := fun k hk q => hk (by rcases hf k q with e | e | e <;> simp [e])
  exact ⟨gst_frm h (na 0 (by decide)) hm.1, tabs_frm h (na 9 (by decide)) (na 10 (by decide)) hm.2.1, pastOK_frm h (na 1 (by decide)) (nf 0 (by decide)) hm.2.2.1, slotOK_frm h (na 3 (by decide)) (na 4 (by decide)) hm.2.2.2.1, padOK_frm h (na 5 (by decide)) (nf 1 (by decide)) hm.2.2.2.2⟩
theorem mOK_tab {st st1 : MS} {S : SS} (h : frm [7, 8, 9, 10] [3, 4] st st1) (ht : tabs st1) (hm : mOK st S) : mOK st1 S := ⟨gst_frm h (by decide) hm.1, ht, pastOK_frm h (by decide) (by decide) hm.2.2.1, slotOK_frm h (by decide) (by decide) hm.2.2.2.1, padOK_frm h (by decide) (by decide) hm.2.2.2.2⟩
def recL (ps : List Gm) (g : Gm) : List Gm := (if ps.length = 6 then ps.tail else ps) ++ [g]
theorem getD_appG {L : List Gm} {g x : Gm} {k : Nat} (h : k < L.length) : (L ++ [g]).getD k x = L.getD k x := by
  rw [List.getD_eq_getElem?_getD, List.getD_eq_getElem?_getD, List.getElem?_append_left h]
theorem getD_appG2 {L : List Gm} {g x : Gm} : (L ++ [g]).getD L.length x = g := by
  rw [List.getD_eq_getElem?_getD, List.getElem?_append_right (Nat.le_refl _)]
  simp
theorem rec_past {x1 r : Int32} {st st1 : MS} {ps : List Gm} {g : Gm} (hq : qX3_record x1 st r st1) (hx : ¬ x1 < 0) (hp : pastOK st ps) (hb : rowOK (st.1 2) g) : r = x1 ∧ frm [1] [0] st st1 ∧ pastOK st1 (recL ps g) := by
  obtain ⟨e, h⟩ := hq
  rcases h with h | ⟨-, hf, h⟩
  · exact absurd h.1 hx
  · obtain ⟨ha, hb6⟩ := h ps.length hp.1 hp.2.1
    refine ⟨e, hf, ?_⟩
    unfold recL
    by_cases h6 : ps.length = 6
    · rw [if_pos h6]
      obtain ⟨e0, hlo, hhi⟩ := hb6 h6
      have hl5 : ps.tail.length = 5 := by rw [List.length_tail]; omega
      refine ⟨by rw [List.length_append, hl5]; exact Nat.le_refl 6, by rw [List.length_append, hl5]; exact e0, fun i hi => ?_⟩
      rw [List.length_append, hl5] at hi
      have hi6 : i < 6 := hi
      by_cases e5 : i = 5
      · subst e5
        rw [show (5 : Nat) = ps.tail.length from hl5.symm, getD_appG2, hl5]
        exact rowOK_congr (fun k hk => hhi k hk) hb
      · rw [getD_appG (by omega)]
        have hr := hp.2.2 (i + 1) (by omega)
        have et : ps.tail.getD i (gNew 0 0) = ps.getD (i + 1) (gNew 0 0) := by
          rw [List.getD_eq_getElem?_getD, List.getD_eq_getElem?_getD, List.getElem?_tail]
        rw [et]
        refine rowOK_congr (fun k hk => ?_) hr
        rw [hlo _ (by omega)]
        exact congrArg (st.1 1) (show 7003 + (7003 * i + k) = 7003 * (i + 1) + k by omega)
    · rw [if_neg h6]
      have hlt : ps.length < 6 := by have := hp.1; omega
      obtain ⟨e0, hlo, hhi⟩ := ha hlt
      refine ⟨by rw [List.length_append]; exact hlt, by rw [List.length_append]; exact e0, fun i hi => ?_⟩
      rw [List.length_append] at hi
      have hi' : i < ps.length + 1 := hi
      by_cases ei : i = ps.length
      · subst ei
        rw [getD_appG2]
        exact rowOK_congr (fun k hk => hhi k hk) hb
      · rw [getD_appG (by omega)]
        refine rowOK_congr (fun k hk => ?_) (hp.2.2 i (by omega))
        exact hlo _ (by have : 7003 * i + 7003 ≤ 7003 * ps.length := by omega
                        omega)
theorem mem_row {st st1 : MS} {g : Gm} (hg : gst st g) (h : qX3_remember st st1) : rowOK (st1.1 2) g := rowOK_congr (fun k hk => h.2 k hk) hg
/-- behind an order: what was remembered is recorded, unless an error is told -/
theorem ord_fin {st st1 st2 st3 : MS} {S : SS} {g' : Gm} {x r : Int32} (hm : mOK st S) (h1 : qX3_remember st st1) (hf : frm [0, 7, 8, 9, 10] [3, 4] st1 st2) (ht : tabs st2) (hg : gst st2 g') (h3 : qX3_record x st2 r st3) : r = (ordS (x, g') S).1 ∧ mOK st3 (ordS (x, g') S).2 := by
  have hp2 : pastOK st2 S.2.1 := pastOK_frm hf (by decide) (by decide) (pastOK_frm h1.1 (by decide) (by decide) hm.2.2.1)
  have hs2 : slotOK st2 S.2.2.1 := slotOK_frm hf (by decide) (by decide) (slotOK_frm h1.1 (by decide) (by decide) hm.2.2.2.1)
  have hd2 : padOK st2 S.2.2.2 := padOK_frm hf (by decide) (by decide) (padOK_frm h1.1 (by decide) (by decide) hm.2.2.2.2)
  have hb2 : rowOK (st2.1 2) S.1 := by rw [hf.1 2 (by decide)]; exact mem_row hm.1 h1
  unfold ordS
  by_cases hx : x < 0
  · rw [if_pos hx]
    obtain ⟨e, h⟩ := h3
    rcases h with h | h
    · obtain ⟨-, rfl⟩ := h
      exact ⟨e, hg, ht, hp2, hs2, hd2⟩
    · exact absurd hx h.1
  · rw [if_neg hx]
    obtain ⟨e, hf3, hp3⟩ := rec_past h3 hx hp2 hb2
    exact ⟨e, gst_frm hf3 (by decide) hg, tabs_frm hf3 (by decide) (by decide) ht, hp3, slotOK_frm hf3 (by decide) (by decide) hs2, padOK_frm hf3 (by decide) (by decide) hd2⟩
theorem rec_pre {st : MS} {ps : List Gm} (x : Int32) (h : pastOK st ps) : pX3_record x st := ⟨ps.length, h.1, h.2.1⟩
theorem vcX3_place (x : Int32) (S : SS) (st : MS) (h : mOK st S) (hl : S.1.2.2.length ≤ 6000) : wX3_place_0 (fun r st1 => r = (sPlace x S).1 ∧ mOK st1 (sPlace x S).2) x st := by
  unfold wX3_place_0
  refine ⟨trivial, fun st1 h1 => ?_⟩
  have hg1 := gst_frm h1.1 (by decide) h.1
  refine ⟨⟨S.1, hg1, by omega⟩, fun r2 st3 h2 => ?_⟩
  obtain ⟨e, hg3⟩ := h2.2 S.1 hg1 (by omega)
  have hf : frm [0, 7, 8, 9, 10] [3, 4] st1 st3 := h2.1.mono (by simp) (by simp)
  refine ⟨rec_pre _ (pastOK_frm hf (by decide) (by decide) (pastOK_frm h1.1 (by decide) (by decide) h.2.2.1)), fun r4 st5 h4 => ?_⟩
  subst e
  exact ord_fin h h1 hf (tabs_frm h2.1 (by decide) (by decide) (tabs_frm h1.1 (by decide) (by decide) h.2.1)) hg3 h4
theorem vcX3_slide (x y : Int32) (S : SS) (st : MS) (h : mOK st S) (hl : S.1.2.2.length ≤ 6000) : wX3_slide_0 (fun r st1 => r = (sSlide x y S).1 ∧ mOK st1 (sSlide x y S).2) x y st := by
  unfold wX3_slide_0
  refine ⟨trivial, fun st1 h1 => ?_⟩
  have hg1 := gst_frm h1.1 (by decide) h.1
  refine ⟨⟨S.1, hg1, by omega⟩, fun r2 st3 h2 => ?_⟩
  obtain ⟨e, hg3⟩ := h2.2 S.1 hg1 (by omega)
  have hf : frm [0, 7, 8, 9, 10] [3, 4] st1 st3 := h2.1.mono (by simp) (by simp)
  refine ⟨rec_pre _ (pastOK_frm hf (by decide) (by decide) (pastOK_frm h1.1 (by decide) (by decide) h.2.2.1)), fun r4 st5 h4 => ?_⟩
  subst e
  exact ord_fin h h1 hf (tabs_frm h2.1 (by decide) (by decide) (tabs_frm h1.1 (by decide) (by decide) h.2.1)) hg3 h4
theorem vcX3_pass (S : SS) (st : MS) (h : mOK st S) (hl : S.1.2.2.length ≤ 6000) : wX3_pass_0 (fun r st1 => r = (sPass S).1 ∧ mOK st1 (sPass S).2) st := by
  unfold wX3_pass_0
  refine ⟨trivial, fun st1 h1 => ?_⟩
  have hg1 := gst_frm h1.1 (by decide) h.1
  refine ⟨⟨Or.inl rfl, S.1, hg1, by omega⟩, fun r2 st3 h2 => ?_⟩
  obtain ⟨e, hg3⟩ := h2.2 S.1 hg1 (by omega)
  have hf : frm [0, 7, 8, 9, 10] [3, 4] st1 st3 := h2.1.mono (by simp) (by simp)
  refine ⟨rec_pre _ (pastOK_frm hf (by decide) (by decide) (pastOK_frm h1.1 (by decide) (by decide) h.2.2.1)), fun r4 st5 h4 => ?_⟩
  subst e
  exact ord_fin h h1 hf (tabs_frm h2.1 (by decide) (by decide) (tabs_frm h1.1 (by decide) (by decide) h.2.1)) hg3 h4
theorem plays_len (x : Int32) (g : Gm) : (playsG x g).2.2.2.length ≤ g.2.2.length + 60 := by
  unfold playsG
  split
  · rename_i h
    have h1 := of_decide_eq_true h
    split
    · exact Nat.le_add_right _ _
    · have h2 := play_le g x.toInt.toNat
      have h3 := play_len g x.toInt.toNat
      dsimp only
      omega
  · exact Nat.le_add_right _ _
theorem vcX3_play (x : Int32) (S : SS) (st : MS) (h : mOK st S) (hl : S.1.2.2.length ≤ 6000) : wX3_play_0 (fun r st1 => r = (sPlay x S).1 ∧ mOK st1 (sPlay x S).2) x st := by
  unfold wX3_play_0
  have hlen := plays_len x S.1
  refine ⟨trivial, fun st1 h1 => ?_⟩
  have hg1 := gst_frm h1.1 (by decide) h.1
  have ht1 := tabs_frm h1.1 (by decide) (by decide) h.2.1
  refine ⟨⟨ht1, S.1, hg1, by omega⟩, fun r2 st3 h2 => ?_⟩
  obtain ⟨hf, ht3, h2q⟩ := h2
  obtain ⟨e, hg3⟩ := h2q S.1 hg1 (by omega)
  refine ⟨rec_pre _ (pastOK_frm hf (by decide) (by decide) (pastOK_frm h1.1 (by decide) (by decide) h.2.2.1)), fun r4 st5 h4 => ?_⟩
  subst e
  exact ord_fin h h1 hf ht3 hg3 h4
/-- a row with two settings and noughts is a new game -/
theorem row_new {row : Nat → Int32} {d l : Nat} (hd : d < 2) (hl : l < 2) (h0 : row 0 = nI d) (h1 : row 1 = nI l) (hz : ∀ k, 2 ≤ k → k < 7003 → row k = 0) : rowOK row (gNew d l) := by
  refine ⟨gok_new hd hl, show 1 ≤ 7000 by decide, h0, h1, by rw [hz 2 (by decide) (by decide)]; rfl, fun k hk => ?_⟩
  have hk : k < 1 := hk
  obtain rfl : k = 0 := by omega
  rw [hz 3 (by decide) (by decide)]
  have : codB (0, 0, 0) = 0 := by decide
  show (0 : Int32) = nI (codB (0, 0, 0))
  rw [this]; rfl
theorem in_01 {x r : Int32} (h : qX3_in x.toInt64 (0 : Int32) (1 : Int32) r) : r = b2 (in01 x) := by
  unfold qX3_in at h
  rw [h, Int32.toInt_toInt64]
  rfl
theorem vcX3_begin (S : SS) (st : MS) (h : mOK st S) : wX3_begin_0 (fun r st1 => r = (sBegin S).1 ∧ mOK st1 (sBegin S).2) st := by
  unfold wX3_begin_0
  refine ⟨trivial, fun st1 h1 => ?_⟩
  have hg1 := gst_frm h1.1 (by decide) h.1
  have hn := nmv_lt hg1
  rw [show ((2 : Int32)).toNatClampNeg = 2 from rfl, hg1.2.2.2.2.1]
  refine ⟨vin (n := 2) (by decide), trivial, fun st2 h2 => ?_⟩
  have hf : frm [0, 7, 8, 9, 10] [3, 4] st1 st2 := h2.1.mono (by simp) (by simp)
  have hp2 := pastOK_frm hf (by decide) (by decide) (pastOK_frm h1.1 (by decide) (by decide) h.2.2.1)
  refine ⟨rec_pre _ hp2, fun r3 st4 h3 => ?_⟩
  have hg2 : gst st2 (gNew S.1.1 S.1.2.1) := row_new hg1.1.1 hg1.1.2.1 (by rw [h2.2.1]; exact hg1.2.2.1) (by rw [h2.2.2.1]; exact hg1.2.2.2.1) h2.2.2.2
  have := ord_fin h h1 hf (tabs_frm h2.1 (by decide) (by decide) (tabs_frm h1.1 (by decide) (by decide) h.2.1)) hg2 h3
  unfold ordS at this
  rw [if_neg (nI_pos (by omega))] at this
  exact this
theorem vcX3_set (x y : Int32) (S : SS) (st : MS) (h : mOK st S) : wX3_set_0 (fun r st1 => r = (sSet x y S).1 ∧ mOK st1 (sSet x y S).2) x y st := by
  unfold wX3_set_0 wX3_set_10 wX3_set_20
  have bad : (in01 x && in01 y) = false → (-2 : Int32) = (sSet x y S).1 ∧ mOK st (sSet x y S).2 := by
    intro hb
    unfold sSet
    rw [hb]
    exact ⟨rfl, h⟩
  intro r1 h1
  rw [in_01 h1]
  refine ⟨fun h2 => bad (by rw [b2_0.mp h2]; rfl), fun h2 r3 h3 => ?_⟩
  rw [in_01 h3]
  refine ⟨fun h4 => ?_, fun h4 => bad (by rw [b2_0.mp h4, Bool.and_false])⟩
  have hx := b2_n0.mp h2
  have hy := b2_n0.mp h4
  obtain ⟨a, ha, ex, ex2⟩ := in01_of hx
  obtain ⟨b, hb, ey, ey2⟩ := in01_of hy
  unfold wX3_set_23
  refine ⟨trivial, fun st1 h5 => ?_⟩
  have hg1 := gst_frm h5.1 (by decide) h.1
  have hd := hg1.1.1
  have hl := hg1.1.2.1
  have eS : sSet x y S = (if a = 0 then (nI S.1.1, (gNew b S.1.2.1, recS S, S.2.2)) else (nI S.1.2.1, (gNew S.1.1 b, recS S, S.2.2))) := by
    unfold sSet
    rw [hx, hy, ey2, ex]
    rcases (show a = 0 ∨ a = 1 by omega) with rfl | rfl
    · rfl
    · rfl
  rw [ex, nI_clamp (by omega), ey]
  have ht1 := tabs_frm h5.1 (by decide) (by decide) h.2.1
  have hpre : frm [0] [] st1 (mA st1 0 a (nI b)) := frm_A (frm.refl _ _ _) (by simp)
  refine ⟨vin (by omega), vin (by omega), trivial, fun st2 h6 => ?_⟩
  have hf : frm [0, 7, 8, 9, 10] [3, 4] st1 st2 := (hpre.trans h6.1).mono (by simp) (by simp)
  have ht2 := tabs_frm (hpre.trans h6.1) (by decide) (by decide) ht1
  have hp2 := pastOK_frm hf (by decide) (by decide) (pastOK_frm h5.1 (by decide) (by decide) h.2.2.1)
  refine ⟨rec_pre _ hp2, fun r7 st7 h7 => ?_⟩
  rcases (show a = 0 ∨ a = 1 by omega) with rfl | rfl
  · have hg2 : gst st2 (gNew b S.1.2.1) := row_new hb hl (by rw [h6.2.1, mA_self, pk_us]) (by rw [h6.2.2.1, mA_self, pk_un (by decide)]; exact hg1.2.2.2.1) h6.2.2.2
    rw [hg1.2.2.1] at h7
    have := ord_fin h h5 hf ht2 hg2 h7
    unfold ordS at this
    rw [if_neg (nI_pos (by omega))] at this
    rw [← ey, ← ex, eS]
    exact this
  · have hg2 : gst st2 (gNew S.1.1 b) := row_new hd hb (by rw [h6.2.1, mA_self, pk_un (by decide)]; exact hg1.2.2.1) (by rw [h6.2.2.1, mA_self, pk_us]) h6.2.2.2
    rw [hg1.2.2.2.1] at h7
    have := ord_fin h h5 hf ht2 hg2 h7
    unfold ordS at this
    rw [if_neg (nI_pos (by omega))] at this
    rw [← ey, ← ex, eS]
    exact this
