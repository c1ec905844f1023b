/-! VC of MorrisTables, D -/
theorem ot_nxb {b : Bd} (h : bokB b) (q : Nat) : otB (nxb b q) = app (meB b) q ∧ (nxb b q).2.2 = 1 - b.2.2 := by
  have h2 : b.2.2 < 2 := h.2.2.2
  unfold otB nxb meB sid
  rcases (show b.2.2 = 0 ∨ b.2.2 = 1 by omega) with e | e
  · rw [e]; exact ⟨rfl, rfl⟩
  · rw [e]; exact ⟨rfl, rfl⟩
theorem vcX0_places {S : CS} (x1 : Int32) (x2 : Int32) (hS : cOk S) : wX0_places_0 ((in09 x1), pS S, (mvCl (placesG x1 S.1.2) x2 S), (mvSl (placesG x1 S.1.2) x2 S)) (fun r S' => mvPo (placesG x1 S.1.2) x2 S r S') x1 x2 S false 0 0 := by
  have hc := cur_ok hS.1.1
  have err : ∀ (e : Int32) (mk : Bool), e < 0 → (placesG x1 S.1.2).1 = e → in09 x1 = mk → wX0_places_26 ((in09 x1), pS S, (mvCl (placesG x1 S.1.2) x2 S), (mvSl (placesG x1 S.1.2) x2 S)) (fun r S' => mvPo (placesG x1 S.1.2) x2 S r S') x1 x2 e S mk 0 0 := by
    intro e mk he hr hm
    unfold wX0_places_26 wX0_places_35
    rw [(bg_err he).1, (bg_err he).2]
    refine ⟨hS, ⟨Nat.zero_le _, Nat.zero_le _⟩, fun r S2 hq => ?_⟩
    obtain ⟨rfl, hq⟩ := hq
    have e2 : S2 = S := by
      rcases hq with ⟨z, _⟩ | ⟨_, z⟩
      · rw [z] at he; exact absurd he (by decide)
      · exact z
    subst e2
    exact ⟨fun z => absurd he (Int32.not_lt.mpr z), fun _ => ⟨mvPo_err hr he, hm⟩⟩
  intro r hr
  have hr : r = b2 (in09 x1) := hr
  subst hr
  unfold wX0_places_12 wX0_places_8 wX0_places_20 wX0_places_24
  refine ⟨fun h => ?_, fun h => ?_⟩
  · have hi := b2_n0.mp h
    refine ⟨⟨hS, hi, rfl⟩, fun h2 => err _ _ (by decide) ?_ hi, fun h2 => ?_⟩
    · unfold placesG mvsG
      rw [if_pos hi, ask_N (b2_0.mp h2)]
    · obtain ⟨q, hq, e, ha⟩ := ask_X (b2_n0.mp h2)
      have h91 := mvC_lt hq
      have ecl : x1.toNatClampNeg = q := by rw [e, nI_clamp (by omega)]
      have hp : placesG x1 S.1.2 = (nI (cnt (app (meB (cur S.1.2)) q)), goG S.1.2 q) := by
        unfold placesG mvsG
        rw [if_pos hi, ha]
        rfl
      have hn : ¬ (placesG x1 S.1.2).1 < 0 := by
        rw [hp]
        exact nn_not (by have := cnt_le (app (meB (cur S.1.2)) q); omega)
      have hC : mvCl (placesG x1 S.1.2) x2 S = bgC 0 x2 S + 1 := if_neg hn
      have hZ : mvSl (placesG x1 S.1.2) x2 S = bgS 0 x2 S + (S.1.2.2.2.length + 1) := if_neg hn
      unfold wX0_places_26 wX0_places_37
      refine ⟨hS, ⟨by show 0 + bgC 0 x2 S ≤ mvCl _ _ _; omega, by show 0 + bgS 0 x2 S ≤ mvSl _ _ _; omega⟩, fun r S2 hq2 => ?_⟩
      obtain ⟨rfl, hq2⟩ := hq2
      obtain ⟨hS2, e1, hst⟩ := bg_ok hS hq2
      have e12 : S2.1.2 = S.1.2 := by rw [e1]
      refine ⟨fun _ => ⟨⟨hS2, q, by rw [e12]; exact hq, e⟩, ⟨by show 0 + bgC 0 x2 S + 1 ≤ mvCl _ _ _; omega, by show 0 + bgS 0 x2 S + (S2.1.2.2.2.length + 1) ≤ mvSl _ _ _; rw [e12]; omega⟩, fun S3 h3 => ?_⟩, fun z => absurd (Int32.le_refl 0) z⟩
      obtain ⟨u, rfl⟩ := h3
      rw [ecl]
      refine ⟨cInv_go hS2.1 (by rw [e12]; exact hq), fun r4 h4 => ⟨?_, hi⟩⟩
      have h5 := h4 (otB (cur (goG S2.1.2 q))) (by rw [cur_go]; exact otB_lt (nxb_bok (by rw [e12]; exact hc.1) (by rw [e12]; exact isMv_okm (mem_mvl.mp hq).2))) rfl
      rw [cur_go, e12, (ot_nxb hc.1 q).1] at h5
      refine ⟨by rw [hp]; exact h5, fun z => absurd z hn, fun _ => ?_⟩
      rw [hp, e12]
      exact hst u _
  · have hi := b2_0.mp h
    refine err _ _ (by decide) ?_ hi
    unfold placesG
    rw [hi]
    rfl
theorem vcX0_slides {S : CS} (x1 : Int32) (x2 : Int32) (x3 : Int32) (hS : cOk S) : wX0_slides_0 ((in09 x1 && in09 x2), pS S, (mvCl (slidesG x1 x2 S.1.2) x3 S), (mvSl (slidesG x1 x2 S.1.2) x3 S)) (fun r S' => mvPo (slidesG x1 x2 S.1.2) x3 S r S') x1 x2 x3 S false 0 0 := by
  have hc := cur_ok hS.1.1
  have err : ∀ (e : Int32) (mk : Bool), e < 0 → (slidesG x1 x2 S.1.2).1 = e → (in09 x1 && in09 x2) = mk → wX0_slides_53 ((in09 x1 && in09 x2), pS S, (mvCl (slidesG x1 x2 S.1.2) x3 S), (mvSl (slidesG x1 x2 S.1.2) x3 S)) (fun r S' => mvPo (slidesG x1 x2 S.1.2) x3 S r S') x1 x2 x3 e S mk 0 0 := by
    intro e mk he hr hm
    unfold wX0_slides_53 wX0_slides_64
    rw [(bg_err he).1, (bg_err he).2]
    refine ⟨hS, ⟨Nat.zero_le _, Nat.zero_le _⟩, fun r S2 hq => ?_⟩
    obtain ⟨rfl, hq⟩ := hq
    have e2 : S2 = S := by
      rcases hq with ⟨z, _⟩ | ⟨_, z⟩
      · rw [z] at he; exact absurd he (by decide)
      · exact z
    subst e2
    exact ⟨fun z => absurd he (Int32.not_lt.mpr z), fun _ => ⟨mvPo_err hr he, hm⟩⟩
  have no : (in09 x1 && in09 x2) = false → wX0_slides_18 ((in09 x1 && in09 x2), pS S, (mvCl (slidesG x1 x2 S.1.2) x3 S), (mvSl (slidesG x1 x2 S.1.2) x3 S)) (fun r S' => mvPo (slidesG x1 x2 S.1.2) x3 S r S') x1 x2 x3 S false 0 0 := by
    intro hi
    unfold wX0_slides_18 wX0_slides_19 wX0_slides_27
    refine ⟨fun z => absurd rfl z, fun _ => err _ _ (by decide) ?_ hi⟩
    unfold slidesG
    rw [hi]
    rfl
  intro r hr
  have hr : r = b2 (in09 x1) := hr
  subst hr
  refine ⟨fun h => no (by rw [b2_0.mp h]; rfl), fun h => ?_⟩
  intro r hr
  have hr : r = b2 (in09 x2) := hr
  subst hr
  refine ⟨fun h3 => no (by rw [b2_0.mp h3, Bool.and_false]), fun h3 => ?_⟩
  have hi : (in09 x1 && in09 x2) = true := by rw [b2_n0.mp h, b2_n0.mp h3]; rfl
  unfold wX0_slides_14 wX0_slides_19 wX0_slides_31 wX0_slides_47 wX0_slides_51
  refine ⟨fun _ => ⟨⟨hS, hi, rfl⟩, fun h2 => err _ _ (by decide) ?_ hi, fun h2 => ?_⟩, fun z => absurd z (by decide)⟩
  · unfold slidesG mvsG
    rw [if_pos hi, ask_N (b2_0.mp h2)]
  · obtain ⟨q, hq, e, ha⟩ := ask_X (b2_n0.mp h2)
    have h91 := mvC_lt hq
    have hp : slidesG x1 x2 S.1.2 = (nI (1 - (cur S.1.2).2.2), goG S.1.2 q) := by
      unfold slidesG mvsG
      rw [if_pos hi, ha]
      rfl
    have hn : ¬ (slidesG x1 x2 S.1.2).1 < 0 := by
      rw [hp]
      exact nn_not (by omega)
    have hC : mvCl (slidesG x1 x2 S.1.2) x3 S = bgC 0 x3 S + 1 := if_neg hn
    have hZ : mvSl (slidesG x1 x2 S.1.2) x3 S = bgS 0 x3 S + (S.1.2.2.2.length + 1) := if_neg hn
    unfold wX0_slides_53 wX0_slides_67
    rw [e]
    refine ⟨hS, ⟨by show 0 + bgC 0 x3 S ≤ mvCl _ _ _; omega, by show 0 + bgS 0 x3 S ≤ mvSl _ _ _; omega⟩, fun r S2 hq2 => ?_⟩
    obtain ⟨rfl, hq2⟩ := hq2
    obtain ⟨hS2, e1, hst⟩ := bg_ok hS hq2
    have e12 : S2.1.2 = S.1.2 := by rw [e1]
    refine ⟨fun _ => ⟨⟨hS2, q, by rw [e12]; exact hq, rfl⟩, ⟨by show 0 + bgC 0 x3 S + 1 ≤ mvCl _ _ _; omega, by show 0 + bgS 0 x3 S + (S2.1.2.2.2.length + 1) ≤ mvSl _ _ _; rw [e12]; omega⟩, fun S3 h3 => ?_⟩, fun z => absurd (Int32.le_refl 0) z⟩
    obtain ⟨u, rfl⟩ := h3
    rw [nI_clamp (by omega)]
    refine ⟨⟨?_, fun z => absurd z hn, fun _ => ?_⟩, hi⟩
    · show nI (cur (goG S2.1.2 q)).2.2 = _
      rw [hp, cur_go, e12, (ot_nxb hc.1 q).2]
    · rw [hp, e12]
      exact hst u _
theorem vcX0_passes {S : CS} (x1 : Int32) (hS : cOk S) : wX0_passes_0 (true, pS S, (mvCl (mvsG 90 false S.1.2) x1 S), (mvSl (mvsG 90 false S.1.2) x1 S)) (fun r S' => mvPo (mvsG 90 false S.1.2) x1 S r S') x1 S false 0 0 := by
  have hc := cur_ok hS.1.1
  unfold wX0_passes_0 wX0_passes_10 wX0_passes_14
  refine ⟨⟨hS, rfl, rfl⟩, fun h2 => ?_, fun h2 => ?_⟩
  · have he : (-5 : Int32) < 0 := by decide
    have hr : (mvsG 90 false S.1.2).1 = -5 := by
      unfold mvsG
      rw [ask_N (b2_0.mp h2)]
    unfold wX0_passes_16 wX0_passes_25
    rw [(bg_err he).1, (bg_err he).2]
    refine ⟨hS, ⟨Nat.zero_le _, Nat.zero_le _⟩, fun r S2 hq => ?_⟩
    obtain ⟨rfl, hq⟩ := hq
    have e2 : S2 = S := by
      rcases hq with ⟨z, _⟩ | ⟨_, z⟩
      · exact absurd z (by decide)
      · exact z
    subst e2
    exact ⟨fun z => absurd he (Int32.not_lt.mpr z), fun _ => ⟨mvPo_err hr he, rfl⟩⟩
  · obtain ⟨q, hq, e, ha⟩ := ask_X (b2_n0.mp h2)
    have h91 := mvC_lt hq
    have hp : mvsG 90 false S.1.2 = (nI (1 - (cur S.1.2).2.2), goG S.1.2 q) := by
      unfold mvsG
      rw [ha]
      rfl
    have hn : ¬ (mvsG 90 false S.1.2).1 < 0 := by
      rw [hp]
      exact nn_not (by omega)
    have hC : mvCl (mvsG 90 false S.1.2) x1 S = bgC 0 x1 S + 1 := if_neg hn
    have hZ : mvSl (mvsG 90 false S.1.2) x1 S = bgS 0 x1 S + (S.1.2.2.2.length + 1) := if_neg hn
    unfold wX0_passes_16 wX0_passes_27
    rw [e, ← e]
    refine ⟨hS, ⟨by show 0 + bgC 0 x1 S ≤ mvCl _ _ _; omega, by show 0 + bgS 0 x1 S ≤ mvSl _ _ _; omega⟩, fun r S2 hq2 => ?_⟩
    obtain ⟨rfl, hq2⟩ := hq2
    obtain ⟨hS2, e1, hst⟩ := bg_ok hS hq2
    have e12 : S2.1.2 = S.1.2 := by rw [e1]
    refine ⟨fun _ => ⟨⟨hS2, q, by rw [e12]; exact hq, e⟩, ⟨by show 0 + bgC 0 x1 S + 1 ≤ mvCl _ _ _; omega, by show 0 + bgS 0 x1 S + (S2.1.2.2.2.length + 1) ≤ mvSl _ _ _; rw [e12]; omega⟩, fun S3 h3 => ?_⟩, fun z => absurd (Int32.le_refl 0) z⟩
    obtain ⟨u, rfl⟩ := h3
    rw [show (90 : Int32).toNatClampNeg = q by rw [e, nI_clamp (by omega)]]
    refine ⟨⟨?_, fun z => absurd z hn, fun _ => ?_⟩, rfl⟩
    · show nI (cur (goG S2.1.2 q)).2.2 = _
      rw [hp, cur_go, e12, (ot_nxb hc.1 q).2]
    · rw [hp, e12]
      exact hst u _
theorem vcX0_place {S : CS} (x1 : Int32) (hS : cOk S) : wX0_place_0 ((in09 x1), pS S, (mvCl (placesG x1 S.1.2) 1 S), (mvSl (placesG x1 S.1.2) 1 S)) (fun r S' => mvPo (placesG x1 S.1.2) 1 S r S') x1 S false 0 0 := by
  unfold wX0_place_0
  exact ⟨hS, fun h => ⟨h, rfl⟩, ⟨by rw [Nat.zero_add]; exact Nat.le_refl _, by rw [Nat.zero_add]; exact Nat.le_refl _⟩, fun r S2 h => ⟨h, rfl⟩⟩
theorem vcX0_slide {S : CS} (x1 : Int32) (x2 : Int32) (hS : cOk S) : wX0_slide_0 ((in09 x1 && in09 x2), pS S, (mvCl (slidesG x1 x2 S.1.2) 1 S), (mvSl (slidesG x1 x2 S.1.2) 1 S)) (fun r S' => mvPo (slidesG x1 x2 S.1.2) 1 S r S') x1 x2 S false 0 0 := by
  unfold wX0_slide_0
  exact ⟨hS, fun h => ⟨h, rfl⟩, ⟨by rw [Nat.zero_add]; exact Nat.le_refl _, by rw [Nat.zero_add]; exact Nat.le_refl _⟩, fun r S2 h => ⟨h, rfl⟩⟩
theorem vcX0_pass {S : CS}  (hS : cOk S) : wX0_pass_0 (true, pS S, (mvCl (mvsG 90 false S.1.2) 1 S), (mvSl (mvsG 90 false S.1.2) 1 S)) (fun r S' => mvPo (mvsG 90 false S.1.2) 1 S r S')  S false 0 0 := by
  unfold wX0_pass_0
  exact ⟨hS, fun h => ⟨h, rfl⟩, ⟨by rw [Nat.zero_add]; exact Nat.le_refl _, by rw [Nat.zero_add]; exact Nat.le_refl _⟩, fun r S2 h => ⟨h, rfl⟩⟩
theorem vcX0_play {S : CS} (x1 : Int32) (hS : cOk S) (ho : S.1.2.2.2.length < 900000) : wX0_play_0 ((plB x1), pS S, (plCl x1 1 S), (plSl x1 1 S)) (fun r S' => mvPo (playsG x1 S.1.2) 1 S r S') x1 S false 0 0 := by
  unfold wX0_play_0
  exact ⟨⟨hS, ho⟩, fun h => ⟨h, rfl⟩, ⟨by rw [Nat.zero_add]; exact Nat.le_refl _, by rw [Nat.zero_add]; exact Nat.le_refl _⟩, fun r S2 h => ⟨h, rfl⟩⟩
