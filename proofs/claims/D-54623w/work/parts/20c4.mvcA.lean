theorem vcX3_next (x1 : Int32) (st : MS) (hp : pX3_next x1 st) : wX3_next_0 (qX3_next x1 st) x1 st := by
  obtain ⟨f, s, mv, q, ho, rfl, hk⟩ := hp
  have hb := ho.1
  have hmv := hb.2.2.2
  have hq90 := okm_le hk
  have hdj : sid f s mv &&& sid f s (1 - mv) = 0 := by
    rcases (show mv = 0 ∨ mv = 1 by omega) with rfl | rfl
    · exact hb.2.2.1
    · show s &&& f = 0
      rw [Nat.and_comm]; exact hb.2.2.1
  have hme := sid_lt (pl := mv) hb
  have hap := app_apart hme hdj hk
  have hal := app_lt hme hq90
  -- the board behind the move
  have hnb : bok (nxb (f, s, mv) q).1 (nxb (f, s, mv) q).2.1 (nxb (f, s, mv) q).2.2 ∧ (nxb (f, s, mv) q).2.2 = 1 - mv ∧ ∀ k, cel (nxb (f, s, mv) q).1 (nxb (f, s, mv) q).2.1 k = if (app (sid f s mv) q).testBit k then mv + 1 else if (sid f s (1 - mv)).testBit k then 2 - mv else 0 := by
    rcases (show mv = 0 ∨ mv = 1 by omega) with rfl | rfl
    · refine ⟨⟨hal, hb.2.1, hap, show 1 < 2 by decide⟩, rfl, fun k => ?_⟩
      have := and0 hap k
      simp only [nxb, cel, sid, if_true] at *
      cases h1 : (app f q).testBit k <;> cases h2 : s.testBit k <;> simp_all
    · refine ⟨⟨hb.1, hal, by rw [Nat.and_comm]; exact hap, show 0 < 2 by decide⟩, rfl, fun k => ?_⟩
      have := and0 hap k
      simp only [nxb, cel, sid] at *
      cases h1 : (app s q).testBit k <;> cases h2 : f.testBit k <;> simp_all
  obtain ⟨hnb1, hnb2, hnb3⟩ := hnb
  have hcell : ∀ k, k < 9 → st.1 7 k = nI (if (sid f s mv).testBit k then mv + 1 else if (sid f s (1 - mv)).testBit k then 2 - mv else 0) := by
    intro k hk
    rw [ho.2.1 k hk]
    congr 1
    have h1 := cel_sid hb.2.2.1 hmv k
    have h2 := cel_sid hb.2.2.1 (pl := 1 - mv) (by omega) k
    have h3 := cel_lt hb.2.2.1 k
    by_cases g1 : (sid f s mv).testBit k = true
    · rw [if_pos g1]; exact h1.mpr g1
    · rw [if_neg g1]
      by_cases g2 : (sid f s (1 - mv)).testBit k = true
      · rw [if_pos g2]; have := h2.mpr g2; omega
      · rw [if_neg g2]
        have : ¬ cel f s k = mv + 1 := fun z => g1 (h1.mp z)
        have : ¬ cel f s k = 1 - mv + 1 := fun z => g2 (h2.mp z)
        omega
  have fin : ∀ st1, frm [7] [3] st st1 → st1.2 3 = nI mv → (∀ k, k < 9 → st1.1 7 k = nI (if (app (sid f s mv) q).testBit k then mv + 1 else if (sid f s (1 - mv)).testBit k then 2 - mv else 0)) → wX3_next_63 (qX3_next (nI q) st) (nI (cod f s mv)) st1 := by
    intro st1 hf hm hc
    unfold wX3_next_63
    rw [hm, show (1 : Int32) = nI 1 from rfl, sub_n (by omega)]
    have ho2 : opn (mF st1 3 (nI (1 - mv))) (nxb (f, s, mv) q).1 (nxb (f, s, mv) q).2.1 (nxb (f, s, mv) q).2.2 := ⟨hnb1, fun k hk => by rw [mF_A, hc k hk, hnb3], by rw [mF_self, hnb2]⟩
    refine ⟨⟨_, _, _, ho2⟩, fun r1 h1 => ⟨⟨f, s, mv, hb, rfl⟩, fun st3 h3 => ?_⟩⟩
    have e1 := h1 _ _ _ ho2
    refine ⟨(frm_F hf (by simp)).trans h3.1, fun f' s' mv' q' ho' e hk' => ?_⟩
    obtain ⟨rfl, rfl, rfl⟩ := opn_inj ho ho'
    have := okm_le hk'
    obtain rfl : q = q' := nI_inj e
    exact ⟨h3.2 f s mv hb rfl, hnb1, e1⟩
  unfold wX3_next_0
  refine ⟨⟨f, s, mv, ho⟩, fun r1 h1 => ?_⟩
  have e1 := h1 f s mv ho
  subst e1
  unfold wX3_next_26 wX3_next_11 wX3_next_32
  refine ⟨fun h2 => ⟨fun h3 => ?_, fun h3 => ?_⟩, fun h2 => ?_⟩
  · have : 90 ≤ q := nle_of (a := 90) h3
    obtain rfl : q = 90 := by omega
    exact fin st (frm.refl _ _ _) ho.2.2 (fun k hk => by rw [hcell k hk, app_tb hme]; rfl)
  · have h9 : 9 ≤ q := nle_of (a := 9) h2
    have h90 : q < 90 := nlt_of (a := 90) h3
    rw [show (9 : Int32) = nI 9 from rfl, sub_n h9, pk_div (by omega) (by decide) (by decide), irm_n (by omega) (by decide) (by decide), nI_clamp (n := (q - 9) / 9) (by omega), nI_clamp (n := (q - 9) % 9) (by omega), mA_F, ho.2.2, show (1 : Int32) = nI 1 from rfl, nI_add]
    refine ⟨vin (by omega), vin (by omega), fin _ (frm_A (frm_A (frm.refl _ _ _) (by simp)) (by simp)) ho.2.2 (fun k hk9 => ?_)⟩
    rw [mA_self, mA_self, app_tb hme, if_neg (show ¬ q = 90 by omega), if_neg (show ¬ q < 9 by omega)]
    by_cases g1 : k = (q - 9) % 9
    · subst g1
      rw [pk_us]; simp
    · rw [pk_un g1]
      by_cases g2 : k = (q - 9) / 9
      · subst g2
        rw [pk_us]
        have hfr : (sid f s mv).testBit ((q - 9) / 9) = true := by
          rcases hk with h | h | h
          · omega
          · omega
          · exact h.2.2.1
        have := and0 hdj ((q - 9) / 9)
        have g3 : ¬ (q - 9) % 9 = (q - 9) / 9 := fun z => g1 z.symm
        simp_all
        rfl
      · rw [pk_un g2, hcell k hk9]
        have g3 : ¬ (q - 9) % 9 = k := fun z => g1 z.symm
        have g4 : ¬ (q - 9) / 9 = k := fun z => g2 z.symm
        simp [g3, g4]
  · have h9 : q < 9 := nlt_of (a := 9) h2
    rw [nI_clamp (n := q) (by omega), ho.2.2, show (1 : Int32) = nI 1 from rfl, nI_add]
    refine ⟨vin h9, fin _ (frm_A (frm.refl _ _ _) (by simp)) ho.2.2 (fun k hk9 => ?_)⟩
    rw [mA_self, app_tb hme, if_neg (show ¬ q = 90 by omega), if_pos h9]
    by_cases g1 : k = q
    · subst g1
      rw [pk_us]; simp
    · rw [pk_un g1, hcell k hk9]
      have g3 : ¬ q = k := fun z => g1 z.symm
      simp [g3]
