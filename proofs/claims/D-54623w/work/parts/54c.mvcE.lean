/-! VC of MorrisTables, E -/
theorem vcX0_begin {S : CS}  (hS : cOk S) : wX0_begin_0 (false, pS S, (rcC S + 2), (rcS S + 3)) (fun r S' => r = nI (nmv S.1.2) ∧ stT 1 S S' (gNew S.1.2.1 S.1.2.2.1))  S false 0 0 := by
  unfold wX0_begin_0
  refine ⟨hS.1, ⟨by show 0 + rcC S ≤ rcC S + 2; omega, by show 0 + rcS S ≤ rcS S + 3; omega⟩, fun S2 h2 => ⟨trivial, ⟨by show 0 + rcC S + 2 ≤ rcC S + 2; omega, by show 0 + rcS S + 3 ≤ rcS S + 3; omega⟩, fun S4 h4 => ?_⟩⟩
  obtain ⟨u, b, mo, rfl⟩ := h2
  obtain ⟨u4, -, rfl⟩ := h4
  exact ⟨⟨rfl, rfl, Or.inl ⟨by decide, u, b, mo, rfl⟩⟩, rfl⟩
theorem vcX0_set {S : CS} (x1 : Int32) (x2 : Int32) (hS : cOk S) : wX0_set_0 (false, pS S, (seCl x1 x2 S), (seSl x1 x2 S)) (fun r S' => sePo x1 x2 S r S') x1 x2 S false 0 0 := by
  have err : (in01 x1 && in01 x2) = false → wX0_set_23 (false, pS S, (seCl x1 x2 S), (seSl x1 x2 S)) (fun r S' => sePo x1 x2 S r S') x1 x2 S false 0 0 := by
    intro hi
    have he : (-2 : Int32) < 0 := by decide
    unfold wX0_set_23 wX0_set_25 wX0_set_34
    rw [(bg_err he).1, (bg_err he).2]
    refine ⟨hS, ⟨Nat.zero_le _, Nat.zero_le _⟩, fun r S2 hq => ?_⟩
    obtain ⟨rfl, hq⟩ := hq
    have e2 : S2 = S := by
      rcases hq with ⟨z, _⟩ | ⟨_, z⟩
      · exact absurd z (by decide)
      · exact z
    subst e2
    exact ⟨fun z => absurd he (Int32.not_lt.mpr z), fun _ => ⟨⟨fun _ => ⟨rfl, rfl⟩, fun z => absurd (hi.symm.trans z) (by decide)⟩, rfl⟩⟩
  intro r hr
  have hr : r = b2 (in01 x1) := isIn_eq 0 1 rfl rfl hr
  subst hr
  refine ⟨fun h => err (by rw [b2_0.mp h]; rfl), fun h => ?_⟩
  intro r hr
  have hr : r = b2 (in01 x2) := isIn_eq 0 1 rfl rfl hr
  subst hr
  refine ⟨fun h3 => err (by rw [b2_0.mp h3, Bool.and_false]), fun h3 => ?_⟩
  have i1 := b2_n0.mp h
  have i2 := b2_n0.mp h3
  have hi : (in01 x1 && in01 x2) = true := by rw [i1, i2]; rfl
  obtain ⟨a, ha, ea, fa⟩ := in01_of i1
  obtain ⟨b, hb, eb, fb⟩ := in01_of i2
  have hC : seCl x1 x2 S = rcC S + 2 := by unfold seCl; rw [hi]; rfl
  have hZ : seSl x1 x2 S = rcS S + 3 := by unfold seSl; rw [hi]; rfl
  have bC : bgC 0 1 S = rcC S := if_pos ⟨rfl, by decide⟩
  have bZ : bgS 0 1 S = rcS S := if_pos ⟨rfl, by decide⟩
  unfold wX0_set_19 wX0_set_25 wX0_set_36
  rw [bC, bZ]
  refine ⟨hS, ⟨by show 0 + rcC S ≤ seCl _ _ _; omega, by show 0 + rcS S ≤ seSl _ _ _; omega⟩, fun r S2 hq2 => ?_⟩
  obtain ⟨rfl, hq2⟩ := hq2
  obtain ⟨hS2, e1, hst⟩ := bg_ok hS hq2
  refine ⟨fun _ => ⟨by rw [ea]; exact vin ha, a, b, ⟨ha, ea, eb⟩, fun S3 h3 => ⟨trivial, ⟨by show 0 + rcC S + 2 ≤ seCl _ _ _; omega, by show 0 + rcS S + 3 ≤ seSl _ _ _; omega⟩, fun S5 h5 => ?_⟩⟩, fun z => absurd (Int32.le_refl 0) z⟩
  subst h3
  obtain ⟨u, -, rfl⟩ := h5
  refine ⟨⟨fun z => absurd (hi.symm.trans z) (by decide), fun _ => ⟨fun z => ?_, fun z => ?_⟩⟩, rfl⟩
  · have : a = 0 := nI_inj (ea.symm.trans z)
    subst this
    rw [ea, nI_clamp (by omega), fb, e1]
    exact ⟨rfl, hst u _⟩
  · have : a = 1 := by
      rcases (show a = 0 ∨ a = 1 by omega) with e | e
      · rw [e] at ea; exact absurd ea z
      · exact e
    subst this
    rw [ea, nI_clamp (by omega), fb, e1]
    exact ⟨rfl, hst u _⟩
theorem vcX0_wipe {S : CS}  (hS : cOk S) : wX0_wipe_0 (false, pS S, 0, 0) (fun r S' => r = nI S.2.2.2.1.2.2.2.length ∧ ∃ ml, S' = cPad S (S.2.2.2.1.1, S.2.2.2.1.2.1, S.2.2.2.1.2.2.1, []) ml)  S false 0 0 := by
  unfold wX0_wipe_0
  have hp := hS.1.2.2.2.2.2.1
  exact ⟨⟨hp.2.1, by have := hp.2.2.1; omega⟩, ⟨Nat.le_refl _, Nat.le_refl _⟩, fun S3 h3 => ⟨⟨rfl, h3⟩, rfl⟩⟩
