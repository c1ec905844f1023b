theorem mv_slide {d l me ot k t : Nat} (hl : hasL d ot = false) (hc : ¬ cnt me < 3) (hk : k < 9) (ht : t < 9) : isMv d l me ot (9 + 9 * k + t) = (me.testBit k && fre me ot t && isNb d k t) := by
  have e1 : (9 + 9 * k + t - 9) / 9 = k := by omega
  have e2 : (9 + 9 * k + t - 9) % 9 = t := by omega
  have e3 : (9 + 9 * k + t == 90) = false := by simp; omega
  have e4 : decide (9 ≤ 9 + 9 * k + t) = true := by simp; omega
  have e5 : decide (9 + 9 * k + t < 90) = true := by simp; omega
  simp only [isMv, hl, hc, if_false, isSl, e1, e2, e3, e4, e5, Bool.false_and, Bool.or_false, Bool.true_and, Bool.not_false]
theorem mv_low {d l me ot q : Nat} (hc : ¬ cnt me < 3) (hq : q < 9) : isMv d l me ot q = false := by
  have e3 : (q == 90) = false := by simp; omega
  have e4 : decide (9 ≤ q) = false := by simp; omega
  simp [isMv, hc, isSl, e3, e4]
theorem mv_place {d l me ot q : Nat} (hl : hasL d ot = false) (hc : cnt me < 3) : isMv d l me ot q = (decide (q < 9) && fre me ot q) := by
  simp [isMv, hl, hc]
theorem full_line : ∀ m, m < 512 → cnt m < 3 → ∀ d, d < 2 → hasL d (511 ^^^ m) = true := by decide +kernel
theorem some_free {d me ot : Nat} (hd : d < 2) (hm : me < 512) (ho : ot < 512) (h0 : me &&& ot = 0) (hl : hasL d ot = false) (hc : cnt me < 3) : ∃ k, k < 9 ∧ fre me ot k = true := by
  apply Classical.byContradiction
  intro hn
  have e : ot = 511 ^^^ me := by
    apply Nat.eq_of_testBit_eq
    intro k
    by_cases hk : k < 9
    · have h1 : ¬ fre me ot k = true := fun q => hn ⟨k, hk, q⟩
      have h2 := and0 h0 k
      have h3 : Nat.testBit 511 k = true := by
        have : ∀ j, j < 9 → Nat.testBit 511 j = true := by decide
        exact this k hk
      rw [Nat.testBit_xor, h3]
      unfold fre at h1
      cases a : me.testBit k <;> cases b : ot.testBit k <;> simp_all
    · rw [Nat.testBit_xor, tb_hi hm (by omega), tb_hi ho (by omega), tb_hi (f := 511) (by decide) (by omega)]; rfl
  rw [e, full_line me hm hc d hd] at hl
  cases hl
theorem vcX3_look (st : MS) (hp : pX3_look st) : wX3_look_0 (qX3_look st) st := by
  obtain ⟨⟨f, s, mv, ho⟩, d, l, hs⟩ := hp
  have hb := ho.1
  have hmv := hb.2.2.2
  have hd := hs.2.2.1
  have hlk := hs.2.2.2
  have f0 : frm [8] [4] st (mF st 4 (0 : Int32)) := frm_F (frm.refl _ _ _) (by simp)
  have key : ∀ st1, frm [8] [4] st st1 → lst st1 (lookL d l (sid f s mv) (sid f s (1 - mv))) → qX3_look st st1 := by
    intro st1 h1 h2
    refine ⟨h1, fun f' s' mv' d' l' ho' hs' => ?_⟩
    obtain ⟨rfl, rfl, rfl⟩ := opn_inj ho ho'
    obtain ⟨rfl, rfl⟩ := sett_inj hs hs'
    exact h2
  have hme := sid_lt (pl := mv) hb
  have hot := sid_lt (pl := 1 - mv) hb
  have hdj : sid f s mv &&& sid f s (1 - mv) = 0 := by
    rcases (show mv = 0 ∨ mv = 1 by omega) with rfl | rfl
    · exact hb.2.2.1
    · show s &&& f = 0
      rw [Nat.and_comm]; exact hb.2.2.1
  have hcz : ∀ k, k < 9 → ∀ st1, frm [8] [4] st st1 → (st1.1 7 k = 0 ↔ fre (sid f s mv) (sid f s (1 - mv)) k = true) := by
    intro k hk st1 hf
    have h1 := opn_frm hf (by simp) (by simp) ho
    have hcl := cel_lt hb.2.2.1 k
    rw [h1.2.1 k hk, ← fre_sid hmv, ← cel_eq0]
    exact ⟨fun q => nI_inj (b := 0) q, fun q => by rw [q]; rfl⟩
  have hcm : ∀ k, k < 9 → ∀ st1, frm [8] [4] st st1 → (st1.1 7 k = st1.2 3 + (1 : Int32) ↔ (sid f s mv).testBit k = true) := by
    intro k hk st1 hf
    have h1 := opn_frm hf (by simp) (by simp) ho
    have hcl := cel_lt hb.2.2.1 k
    rw [h1.2.1 k hk, h1.2.2, show (1 : Int32) = nI 1 from rfl, nI_add, ← cel_sid hb.2.2.1 hmv]
    exact ⟨fun q => nI_inj q, fun q => by rw [q]⟩
  generalize hme' : sid f s mv = me at *
  generalize hot' : sid f s (1 - mv) = ot at *
  have ho0 : opn (mF st 4 (0 : Int32)) f s mv := opn_frm f0 (by simp) (by simp) ho
  have hs0 : sett (mF st 4 (0 : Int32)) d l := sett_frm f0 (by simp) hs
  have m0 : (mF st 4 (0 : Int32)).2 3 = nI mv := ho0.2.2
  have l0 : lst (mF st 4 (0 : Int32)) [] := ⟨mF_self _ _ _, fun j hj => absurd hj (by simp)⟩
  unfold wX3_look_0
  rw [m0, show (1 : Int32) = nI 1 from rfl, sub_n (by omega)]
  refine ⟨⟨⟨f, s, mv, ho0⟩, ⟨1 - mv, by omega, rfl⟩, d, l, hs0⟩, fun r1 h1 => ?_⟩
  have e1 := h1 f s mv (1 - mv) d l ho0 (by omega) rfl hs0
  rw [hot'] at e1
  subst e1
  refine ⟨fun h2 => ?_, fun h2 => ?_⟩
  rotate_left
  · have hl := b2_n0.mp h2
    unfold wX3_look_18
    refine key _ f0 ?_
    have : lookL d l me ot = [] := by
      unfold lookL
      rw [List.filter_eq_nil_iff]
      intro q _
      simp [isMv, hl]
    rw [this]
    exact l0
  · have hl := b2_0.mp h2
    unfold wX3_look_19
    rw [m0]
    refine ⟨⟨⟨f, s, mv, ho0⟩, mv, hmv, rfl⟩, fun r2 h3 => ?_⟩
    have e2 := h3 f s mv mv ho0 hmv rfl
    rw [hme'] at e2
    subst e2
    have hcl := cnt_le me
    have inner : ∀ (L39 : Int32 → Int32 → MS → Prop) (x2 : Int32) (st1 : MS), L39 1 (x2 + 1) st1 → wX3_look_78 (qX3_look st) L39 1 x2 st1 := by
      intro L39 x2 st1 h
      unfold wX3_look_78 wX3_look_80
      refine wloop_up 0 (fun _ v => v = (1, x2, 0, st1)) 0 rfl ?_
      rintro k v L rfl _
      dsimp only
      unfold wX3_look_80_b wX3_look_157 wX3_look_86
      exact ⟨fun _ => h, fun _ => ⟨fun _ => h, fun h' => absurd h' (by decide)⟩⟩
    refine ⟨fun h4 => ?_, fun h4 => ?_⟩
    · -- slides
      have hc : ¬ cnt me < 3 := Nat.not_lt.mpr (nle_of (a := 3) h4)
      have fin : ∀ st1, frm [8] [4] st st1 → lst st1 ((List.range 90).filter (isMv d l me ot)) → wX3_look_163 (qX3_look st) st1 := by
        intro st1 hf hlst
        have hs1 := sett_frm hf (by simp) hs
        have hlen := sl_len (l := l) (ot := ot) hd hc (Nat.le_refl 90)
        have hL : lookL d l me ot = (List.range 90).filter (isMv d l me ot) ++ (if isMv d l me ot 90 then [90] else []) := flt_succ 90
        have h90 : isMv d l me ot 90 = (l == 1 && isLk d me ot) := by
          simp [isMv, hl, hc, isSl]
        have hsl : ∀ q, q < 90 → isMv d l me ot q = isSl d me ot q := by
          intro q hq
          have : (q == 90) = false := by simp; omega
          simp [isMv, hl, hc, this]
        have hlk2 : isLk d me ot = true ↔ (List.range 90).filter (isMv d l me ot) = [] := by
          rw [List.filter_eq_nil_iff]
          unfold isLk
          rw [Bool.not_eq_true', List.any_eq_false]
          constructor
          · intro h q hq
            rw [hsl q (List.mem_range.mp hq)]
            exact h q hq
          · intro h q hq
            rw [← hsl q (List.mem_range.mp hq)]
            exact h q hq
        unfold wX3_look_163 wX3_look_170 wX3_look_180 wX3_look_193
        rw [hlst.1, show ((1 : Int32)).toNatClampNeg = 1 from rfl, show ((0 : Int32)).toNatClampNeg = 0 from rfl, hs1.2.1]
        refine ⟨fun h5 => key st1 hf ?_, fun h5 => ⟨vin (n := 1) (by decide), fun h6 => key st1 hf ?_, fun h6 => ⟨vin (n := 0) (by decide), key _ (frm_F (frm_A hf (by simp)) (by simp)) ?_⟩⟩⟩
        · have hne : ¬ isLk d me ot = true := fun q => h5 (by rw [hlk2.mp q]; rfl)
          rw [hL, h90]
          simp only [hne, Bool.and_false, if_false, Bool.false_eq_true, List.append_nil]
          exact hlst
        · have hne : ¬ l = 1 := fun q => h6 (by rw [q]; rfl)
          rw [hL, h90]
          simp only [hne, beq_iff_eq, Bool.and_eq_true, false_and, if_false, List.append_nil]
          exact hlst
        · have hl1 : l = 1 := nI_inj (b := 1) h6
          have hnil : (List.range 90).filter (isMv d l me ot) = [] := List.eq_nil_of_length_eq_zero (nI_inj (b := 0) h5)
          rw [hL, h90, hnil, hlk2.mpr hnil, hl1]
          refine ⟨mF_self _ _ _, fun j hj => ?_⟩
          have hj0 : j < 1 := hj
          obtain rfl : j = 0 := by omega
          rw [mF_A, mA_self, pk_us]
          rfl
      unfold wX3_look_35 wX3_look_36 wX3_look_39
      refine wloop_up 9 (fun k v => k ≤ 9 ∧ ∃ st1, v = (0, nI k, st1) ∧ frm [8] [4] st st1 ∧ lst st1 ((List.range (9 + 9 * k)).filter (isMv d l me ot))) 0 ⟨by omega, _, rfl, f0, ?_⟩ ?_
      · have : (List.range (9 + 9 * 0)).filter (isMv d l me ot) = [] := by
          rw [List.filter_eq_nil_iff]
          intro q hq
          rw [mv_low hc (by simpa using hq)]
          simp
        rw [this]
        exact l0
      · rintro k v L ⟨hk, st1, rfl, hf, hlst⟩ hL
        dsimp only
        unfold wX3_look_39_b wX3_look_45 wX3_look_78 wX3_look_80
        refine ⟨fun hc9 => ?_, fun hc9 => ⟨fun _ => ?_, fun h => absurd rfl h⟩⟩
        · have : 9 ≤ k := nle_of (a := 9) hc9
          obtain rfl : k = 9 := by omega
          exact fin st1 hf hlst
        · have hk9 : k < 9 := nlt_of (a := 9) hc9
          refine wloop_up 9 (fun t v => t ≤ 9 ∧ ∃ st2, v = (0, nI k, nI t, st2) ∧ frm [8] [4] st st2 ∧ lst st2 ((List.range (9 + 9 * k + t)).filter (isMv d l me ot))) 0 ⟨by omega, st1, rfl, hf, hlst⟩ ?_
          rintro t v L2 ⟨ht, st2, rfl, hf2, hl2⟩ hL2
          dsimp only
          unfold wX3_look_80_b wX3_look_157 wX3_look_86 wX3_look_90 wX3_look_105 wX3_look_114 wX3_look_123 wX3_look_151
          rw [show nI k + (1 : Int32) = nI (k + 1) from nI_1 k, show nI t + (1 : Int32) = nI (t + 1) from nI_1 t, nI_clamp (n := k) (by omega), nI_clamp (n := t) (by omega)]
          refine ⟨fun hc8 => ?_, fun hc8 => ⟨fun h => absurd rfl h, fun _ => ⟨vin hk9, fun h6 => ?_, fun h6 => ⟨?_, fun h7 => ?_, fun h7 => ⟨⟨⟨d, l, sett_frm hf2 (by simp) hs⟩, k, t, hk9, ?_, rfl, rfl⟩, fun r h8 => ?_⟩⟩⟩⟩⟩
          · have : 9 ≤ t := nle_of (a := 9) hc8
            obtain rfl : t = 9 := by omega
            exact hL _ hk9 ⟨by omega, st2, rfl, hf2, hl2⟩
          · rw [hcm k hk9 st2 hf2] at h6
            have ht9 : t < 9 := nlt_of (a := 9) hc8
            refine hL _ hk9 ⟨by omega, st2, by rw [← nI_1], hf2, ?_⟩
            rw [flt_same (n := 9 + 9 * k + t) (by omega)]
            · exact hl2
            · intro q h1 h2
              obtain ⟨t', rfl⟩ : ∃ t', q = 9 + 9 * k + t' := ⟨q - (9 + 9 * k), by omega⟩
              rw [mv_slide hl hc hk9 (by omega)]
              simp [h6]
          · exact vin (nlt_of (a := 9) hc8)
          · have ht9 : t < 9 := nlt_of (a := 9) hc8
            rw [hcz t ht9 st2 hf2] at h7
            refine hL2 _ ht9 ⟨by omega, st2, rfl, hf2, ?_⟩
            rw [show 9 + 9 * k + (t + 1) = 9 + 9 * k + t + 1 from rfl, flt_succ, mv_slide hl hc hk9 ht9]
            simp only [h7, Bool.and_false, Bool.false_and, Bool.false_eq_true, if_false, List.append_nil]
            exact hl2
          · exact nlt_of (a := 9) hc8
          · have ht9 : t < 9 := nlt_of (a := 9) hc8
            rw [hcm k hk9 st2 hf2] at h6
            rw [hcz t ht9 st2 hf2] at h7
            have e3 := h8 d l k t (sett_frm hf2 (by simp) hs) hk9 ht9 rfl rfl
            subst e3
            have hlen := sl_len (l := l) (ot := ot) (n := 9 + 9 * k + t) hd hc (by omega)
            refine ⟨fun h9 => hL2 _ ht9 ⟨by omega, st2, rfl, hf2, ?_⟩, fun h9 => ⟨?_, hL2 _ ht9 ⟨by omega, _, rfl, frm_F (frm_A hf2 (by simp)) (by simp), ?_⟩⟩⟩
            · rw [show 9 + 9 * k + (t + 1) = 9 + 9 * k + t + 1 from rfl, flt_succ, mv_slide hl hc hk9 ht9, b2_0.mp h9]
              simp only [Bool.and_false, Bool.false_eq_true, if_false, List.append_nil]
              exact hl2
            · rw [hl2.1]; exact vin (by omega)
            · rw [show 9 + 9 * k + (t + 1) = 9 + 9 * k + t + 1 from rfl, flt_succ, mv_slide hl hc hk9 ht9, b2_n0.mp h9, h6, h7]
              rw [show (9 : Int32) = nI 9 from rfl, pk_mul, nI_add, nI_add]
              exact lst_add hl2 (by omega)
    · -- placing
      have hc : cnt me < 3 := nlt_of (a := 3) h4
      have hL9 : lookL d l me ot = (List.range 9).filter (isMv d l me ot) := flt_same (by omega) (fun q h1 h2 => by rw [mv_place hl hc]; simp; omega)
      obtain ⟨k0, hk0, hfr⟩ := some_free hd hme hot hdj hl hc
      unfold wX3_look_31 wX3_look_36 wX3_look_39
      refine wloop_up 9 (fun k v => k ≤ 9 ∧ ∃ st1, v = (1, nI k, st1) ∧ frm [8] [4] st st1 ∧ lst st1 ((List.range k).filter (isMv d l me ot))) 0 ⟨by omega, _, rfl, f0, l0⟩ ?_
      rintro k v L ⟨hk, st1, rfl, hf, hlst⟩ hL
      dsimp only
      unfold wX3_look_39_b wX3_look_45 wX3_look_49 wX3_look_58
      have hlen : ((List.range k).filter (isMv d l me ot)).length ≤ k := by
        refine Nat.le_trans (List.length_filter_le _ _) ?_
        simp
      refine ⟨fun hc9 => ?_, fun hc9 => ⟨fun h => absurd h (by decide), fun _ => ⟨?_, fun h5 => ?_, fun h5 => ⟨?_, ?_⟩⟩⟩⟩
      · have : 9 ≤ k := nle_of (a := 9) hc9
        obtain rfl : k = 9 := by omega
        unfold wX3_look_163 wX3_look_193
        have hmem : k0 ∈ (List.range 9).filter (isMv d l me ot) := by
          rw [List.mem_filter, mv_place hl hc]
          simp [hk0, hfr]
        have hpos : 0 < ((List.range 9).filter (isMv d l me ot)).length := List.length_pos_of_mem hmem
        refine ⟨fun _ => key st1 hf (by rw [hL9]; exact hlst), fun h => ?_⟩
        rw [hlst.1] at h
        have := nI_inj (b := 0) h
        omega
      · exact vin (nlt_of (a := 9) hc9)
      · have hk9 : k < 9 := nlt_of (a := 9) hc9
        rw [nI_clamp (by omega), hcz k hk9 st1 hf] at h5
        refine inner _ _ _ (hL _ hk9 ⟨by omega, st1, by rw [← nI_1], hf, ?_⟩)
        rw [flt_succ, mv_place hl hc]
        simp only [h5, Bool.and_false, Bool.false_eq_true, if_false, List.append_nil]
        exact hlst
      · rw [hlst.1]; exact vin (by omega)
      · have hk9 : k < 9 := nlt_of (a := 9) hc9
        rw [nI_clamp (by omega), hcz k hk9 st1 hf] at h5
        refine inner _ _ _ (hL _ hk9 ⟨by omega, _, by rw [← nI_1], frm_F (frm_A hf (by simp)) (by simp), ?_⟩)
        rw [flt_succ, mv_place hl hc, h5, decide_eq_true hk9]
        exact lst_add hlst (by omega)
