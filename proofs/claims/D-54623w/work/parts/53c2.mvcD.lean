/-! VC of MorrisTables, D: plays -/
theorem playN_nn : ∀ (n : Nat) (g : Gm), (playN n g).1 ≤ n
  | 0, g => Nat.le_refl _
  | n + 1, g => by
    unfold playN
    split
    · exact Nat.zero_le _
    · exact Nat.succ_le_succ (playN_nn n _)
theorem vcX0_plays {S : CS} (x1 : Int32) (x2 : Int32) (hS : cOk S) (ho : S.1.2.2.2.length < 900000) : wX0_plays_0 ((plB x1), pS S, (plCl x1 x2 S), (plSl x1 x2 S)) (fun r S' => mvPo (playsG x1 S.1.2) x2 S r S') x1 x2 S false 0 0 := by
  have err : ∀ (e : Int32) (mk : Bool), e < 0 → (playsG x1 S.1.2).1 = e → plB x1 = mk → wX0_plays_29 ((plB x1), pS S, (plCl x1 x2 S), (plSl x1 x2 S)) (fun r S' => mvPo (playsG x1 S.1.2) x2 S r S') x1 x2 e S mk 0 0 := by
    intro e mk he hr hm
    unfold wX0_plays_29 wX0_plays_38
    rw [(bg_err he).1, (bg_err he).2]
    refine ⟨hS, ⟨Nat.zero_le _, Nat.zero_le _⟩, fun r S2 hq => ?_⟩
    obtain ⟨rfl, hq⟩ := hq
    have e2 : S2 = S := by
      rcases hq with ⟨z, _⟩ | ⟨_, z⟩
      · rw [z] at he; exact absurd he (by decide)
      · exact z
    subst e2
    exact ⟨fun z => absurd he (Int32.not_lt.mpr z), fun _ => ⟨mvPo_err hr he, hm⟩⟩
  intro r hr
  have hr : r = b2 (plB x1) := isIn_eq 1 60 rfl rfl hr
  subst hr
  unfold wX0_plays_16 wX0_plays_11 wX0_plays_23 wX0_plays_28
  refine ⟨fun h => ?_, fun h => err _ _ (by decide) ?_ (b2_0.mp h)⟩
  · have hi := b2_n0.mp h
    have hx := of_decide_eq_true hi
    refine ⟨⟨hS, hi, rfl⟩, fun h2 => ?_, fun h2 => err _ _ (by decide) ?_ hi⟩
    · have hov := b2_0.mp h2
      have ex := of_nn (show (0 : Int) ≤ x1.toInt by omega)
      have hp : playsG x1 S.1.2 = (nI (playN x1.toInt.toNat S.1.2).1, (playN x1.toInt.toNat S.1.2).2) := by
        unfold playsG
        unfold plB at hi
        rw [if_pos hi, hov]
        rfl
      have hle := playN_nn x1.toInt.toNat S.1.2
      generalize hn : x1.toInt.toNat = n at *
      have hn60 : n ≤ 60 := by omega
      have hng : ¬ (playsG x1 S.1.2).1 < 0 := by
        rw [hp]
        exact nn_not (by omega)
      have hC : plCl x1 x2 S = bgC 0 x2 S + (playN n S.1.2).1 := by rw [← hn]; exact if_neg hng
      have hZ : plSl x1 x2 S = bgS 0 x2 S + triS S.1.2.2.2.length (playN n S.1.2).1 := by rw [← hn]; exact if_neg hng
      unfold wX0_plays_29 wX0_plays_40
      refine ⟨hS, ⟨by show 0 + bgC 0 x2 S ≤ plCl _ _ _; omega, by show 0 + bgS 0 x2 S ≤ plSl _ _ _; omega⟩, fun r S2 hq2 => ?_⟩
      obtain ⟨rfl, hq2⟩ := hq2
      obtain ⟨hS2, e1, hst⟩ := bg_ok hS hq2
      refine ⟨fun _ => ?_, fun z => absurd (Int32.le_refl 0) z⟩
      unfold wX0_plays_43
      refine ⟨fun k v => ∃ (j : Nat) (u : Nat → Nat) (g1 : Gm) (cc sc : Nat), j + k = n ∧ gok g1 ∧ g1.1 = S.1.2.1 ∧ g1.2.1 = S.1.2.2.1 ∧ g1.2.2.length ≤ S.1.2.2.2.length + j ∧ (playN n S.1.2).1 = j + (playN k g1).1 ∧ (playN n S.1.2).2 = (playN k g1).2 ∧ cc + (playN k g1).1 = plCl x1 x2 S ∧ sc + triS g1.2.2.length (playN k g1).1 = plSl x1 x2 S ∧ v = (x1, nI j, ((u, g1), S2.2), true, cc, sc), n, ⟨0, S2.1.1, S.1.2, 0 + bgC 0 x2 S, 0 + bgS 0 x2 S, by omega, hS.1.1, rfl, rfl, by omega, by omega, rfl, by omega, by omega, ?_⟩, ?_⟩
      · rw [show S.1.2 = S2.1.2 by rw [e1]]
        rfl
      · rintro k v ⟨j, u, g1, cc, sc, hj, hg1, hd1, hl1, hle1, hp1, hp2, hcc, hsc, rfl⟩
        dsimp only
        have hS1 : cOk ((u, g1), S2.2) := ⟨⟨hg1, hS2.1.2.1, hS2.1.2.2.1, hS2.1.2.2.2.1, hS2.1.2.2.2.2.1, hS2.1.2.2.2.2.2.1, hS2.1.2.2.2.2.2.2⟩, by show g1.2.2.length < 1000000; omega⟩
        have hpS : pS ((u, g1), S2.2) = pS S := by
          unfold pS
          show 2 * g1.1 + g1.2.1 = _
          rw [hd1, hl1]
        have ele : (x1 ≤ nI j) ↔ n ≤ j := by
          rw [ex, iI_nI, iI_nI, iI_le]
          omega
        have done : (playN k g1).1 = 0 → (playN k g1).2 = g1 → mvPo (playsG x1 S.1.2) x2 S (nI j) ((u, g1), S2.2) := by
          intro z1 z2
          refine ⟨?_, fun z => absurd z hng, fun _ => ?_⟩
          · rw [hp, hp1, z1]; rfl
          · rw [hp, hp2, z2]
            exact hst u _
        unfold wX0_plays_43_b wX0_plays_73 wX0_plays_49 wX0_plays_73 wX0_plays_56
        refine ⟨fun h3 => ?_, fun h3 => ⟨⟨hS1, hi, hpS⟩, fun h4 => ?_, fun h4 => ?_⟩⟩
        · have : k = 0 := by have := ele.mp h3; omega
          subst this
          exact ⟨done rfl rfl, hi⟩
        · have hov1 : overG g1 = true := b2_n0.mp h4
          refine ⟨done ?_ ?_, hi⟩
          · cases k with
            | zero => rfl
            | succ k => unfold playN; rw [if_pos hov1]
          · cases k with
            | zero => rfl
            | succ k => unfold playN; rw [if_pos hov1]
        · have hov1 : overG g1 = false := b2_0.mp h4
          have hb := best_mem hg1 hov1
          have h91 := mvC_lt hb.1
          cases k with
          | zero => exact absurd (ele.mpr (by omega)) h3
          | succ k =>
            have ep : playN (k + 1) g1 = ((playN k (goG g1 (bestG g1))).1 + 1, (playN k (goG g1 (bestG g1))).2) := by
              conv => lhs; unfold playN
              rw [hov1]
              rfl
            rw [ep] at hp1 hp2 hcc hsc
            dsimp only at hp1 hp2 hcc hsc
            have hlen : (goG g1 (bestG g1)).2.2.length = g1.2.2.length + 1 := by
              show (g1.2.2 ++ [_]).length = _
              rw [List.length_append]; rfl
            have htri : triS g1.2.2.length ((playN k (goG g1 (bestG g1))).1 + 1) = (g1.2.2.length + 1) + triS (g1.2.2.length + 1) (playN k (goG g1 (bestG g1))).1 := rfl
            refine ⟨⟨hS1, hi, hpS⟩, hov1, ⟨hS1, _, hb.1, rfl⟩, ⟨by show cc + 1 ≤ plCl _ _ _; omega, by show sc + (g1.2.2.length + 1) ≤ plSl _ _ _; omega⟩, fun S3 h5 => ?_⟩
            obtain ⟨u3, rfl⟩ := h5
            rw [show (nI (bestG (((u, g1), S2.2) : CS).1.2)).toNatClampNeg = bestG g1 from nI_clamp (n := bestG g1) (by omega), show nI j + (1 : Int32) = nI (j + 1) from nI_add j 1]
            refine ⟨k, by omega, j + 1, u3, goG g1 (bestG g1), cc + 1, sc + (g1.2.2.length + 1), by omega, gok_go hg1 hb.1, hd1, hl1, by rw [hlen]; omega, by omega, hp2, by omega, by rw [hlen]; omega, rfl⟩
    · unfold playsG
      unfold plB at hi
      rw [if_pos hi, show overG S.1.2 = true from b2_n0.mp h2]
      rfl
  · unfold playsG
    have hi := b2_0.mp h
    unfold plB at hi
    rw [hi]
    rfl
