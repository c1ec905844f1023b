/-! group D: tallies, the pad, texts -/
theorem talC_succ (d l : Nat) (P : Int → Bool) (n : Nat) : talC d l P (n + 1) = talC d l P n + (if legB d (bOf n) && P (wrb d l (bOf n)) then 1 else 0) := by
  unfold talC
  rw [List.range_succ, List.countP_append, List.countP_singleton]
theorem talC_le (d l : Nat) (P : Int → Bool) (n : Nat) : talC d l P n ≤ n := by
  unfold talC
  exact Nat.le_trans List.countP_le_length (by simp)
theorem vcX3_many (x : Int32) (S : SS) (st : MS) (h : mOK st S) : wX3_many_0 (fun r st1 => r = sMany x S ∧ mOK st1 S) x st := by
  have hd := h.1.1.1
  have hl := h.1.1.2.1
  unfold wX3_many_0 wX3_many_12 wX3_many_15
  intro r1 h1
  have e1 : r1 = b2 (decide (0 ≤ x.toInt ∧ x.toInt ≤ 200)) := by
    unfold qX3_in at h1
    rw [h1, Int32.toInt_toInt64]
    rfl
  subst e1
  refine ⟨fun h2 => ?_, fun h2 => ?_⟩
  · have hx := b2_n0.mp h2
    have hx' := of_decide_eq_true hx
    refine ⟨⟨⟨_, _, gst_sett h.1⟩, h.2.1⟩, fun r3 st3 h3 => ?_⟩
    obtain ⟨hf, ht, hq⟩ := h3
    obtain ⟨e3, hv, -, -⟩ := hq _ _ (gst_sett h.1)
    subst e3
    have hm := mOK_tab hf ht h
    obtain ⟨k, hk⟩ : ∃ k, k = 2 * S.1.1 + S.1.2.1 := ⟨_, rfl⟩
    rw [← hk] at hv ⊢
    have hk4 : k < 4 := by omega
    have ex : x - (100 : Int32) = iI (x.toInt - 100) := by
      conv => lhs; rw [show x = iI x.toInt from (Int32.ofInt_toInt x).symm, show (100 : Int32) = iI 100 from rfl, iI_sub]
    unfold wX3_many_25
    refine wloop_up 39366 (fun j v => j ≤ 39366 ∧ v = (x, nI (39366 * k), nI (talC S.1.1 S.1.2.1 (fun w => decide (w = x.toInt - 100)) j), nI (39366 * k + j), st3)) 0 ⟨by omega, rfl⟩ ?_
    rintro j v L ⟨hj, rfl⟩ hL
    dsimp only
    unfold wX3_many_25_b wX3_many_62 wX3_many_34 wX3_many_53 wX3_many_49 wX3_many_54
    rw [show (39366 : Int32) = nI 39366 from rfl, nI_add, nI_clamp (n := 39366 * k + j) (by omega), show nI (39366 * k + j) + (1 : Int32) = nI (39366 * k + (j + 1)) from nI_1 _, ex]
    refine ⟨fun hc => ?_, fun hc => ?_⟩
    · have : 39366 * k + 39366 ≤ 39366 * k + j := nle_of hc
      obtain rfl : j = 39366 := by omega
      refine ⟨?_, hm⟩
      unfold sMany
      rw [hx]
      rfl
    · have hj2 : j < 39366 := by
        have : 39366 * k + j < 39366 * k + 39366 := nlt_of hc
        omega
      have hbo := bOf_ok hj2
      rw [hv j hj2]
      have heq : (finC S.1.1 S.1.2.1 j = iI (x.toInt - 100)) ↔ (legB S.1.1 (bOf j) && decide (wrb S.1.1 S.1.2.1 (bOf j) = x.toInt - 100)) = true := by
        unfold finC
        split
        · rename_i hg
          have hr := wrb_rng hd hl hbo.1 hg
          rw [iI_eq]
          simp [hg]
        · rename_i hg
          rw [show (2000 : Int32) = iI 2000 from rfl, iI_eq]
          simp only [hg, Bool.false_and, Bool.false_eq_true]
          constructor
          · intro; omega
          · intro z; cases z
      have htl := talC_le S.1.1 S.1.2.1 (fun w => decide (w = x.toInt - 100)) j
      rw [heq]
      refine ⟨vin (by omega), fun h5 => hL _ hj2 ⟨by omega, ?_⟩, fun h5 => hL _ hj2 ⟨by omega, ?_⟩⟩
      · rw [talC_succ, if_neg h5, show (0 : Int32) = nI 0 from rfl, nI_add]
      · rw [talC_succ, if_pos h5, show (1 : Int32) = nI 1 from rfl, nI_add]
  · have hx := b2_0.mp h2
    unfold sMany
    rw [hx]
    exact ⟨rfl, h⟩
theorem lonC_rng {d l : Nat} (hd : d < 2) (hl : l < 2) {F : Int → Int} (hF : ∀ w, -11 ≤ w → w ≤ 10 → F w ≤ 10) : ∀ n, n ≤ 39366 → 0 ≤ lonC d l F n ∧ lonC d l F n ≤ 10
  | 0, _ => by unfold lonC; decide
  | n + 1, h => by
    have ih := lonC_rng hd hl hF n (by omega)
    have hbo := bOf_ok (show n < 39366 by omega)
    unfold lonC
    split
    · rename_i hg
      have hr := wrb_rng hd hl hbo.1 hg
      have := hF _ hr.1 hr.2
      omega
    · exact ih
theorem vcX3_tally (x1 : Int32) (st : MS) (hp : pX3_tally x1 st) : wX3_tally_0 (qX3_tally x1 st) x1 st := by
  obtain ⟨htb, d, l, hs⟩ := hp
  have hd := hs.2.2.1
  have hl := hs.2.2.2
  unfold wX3_tally_0 wX3_tally_10 wX3_tally_13
  intro r1 h1
  have e1 : r1 = b2 (decide (0 ≤ x1.toInt ∧ x1.toInt ≤ 5)) := by
    unfold qX3_in at h1
    rw [h1, Int32.toInt_toInt64]
    rfl
  subst e1
  refine ⟨fun h2 => ?_, fun h2 => ?_⟩
  · have hx' := of_decide_eq_true (b2_n0.mp h2)
    refine ⟨⟨⟨_, _, hs⟩, htb⟩, fun r3 st3 h3 => ?_⟩
    obtain ⟨hf, ht, hq⟩ := h3
    obtain ⟨e3, hv, -, -⟩ := hq _ _ hs
    subst e3
    obtain ⟨k, hk⟩ : ∃ k, k = 2 * d + l := ⟨_, rfl⟩
    rw [← hk] at hv ⊢
    have hk4 : k < 4 := by omega
    obtain ⟨n, hn, ex⟩ : ∃ n, n ≤ 5 ∧ x1 = nI n := ⟨x1.toInt.toNat, by omega, of_nn hx'.1⟩
    subst ex
    -- what is counted, what is the longest
    let P : Int → Bool := fun w => decide (n = 0 ∨ (n = 1 ∧ 0 < w) ∨ (n = 2 ∧ w < 0) ∨ (n = 3 ∧ w = 0))
    let F : Int → Int := fun w => if n = 4 then w else if n = 5 then -1 - w else 0
    have hF : ∀ w, -11 ≤ w → w ≤ 10 → F w ≤ 10 := by
      intro w h1 h2
      show (if n = 4 then w else if n = 5 then -1 - w else 0) ≤ 10
      split
      · omega
      · split <;> omega
    have key : ∀ r, r = (if 4 ≤ n then iI (lonC d l F 39366) else nI (talC d l P 39366)) → qX3_tally (nI n) st r st3 := by
      intro r e
      refine ⟨hf, ht, fun d' l' hs' => ?_⟩
      obtain ⟨rfl, rfl⟩ := sett_inj hs hs'
      rw [e]
      rcases (show n = 0 ∨ n = 1 ∨ n = 2 ∨ n = 3 ∨ n = 4 ∨ n = 5 by omega) with rfl | rfl | rfl | rfl | rfl | rfl
      · have : P = fun _ => true := by funext w; simp [P]
        rw [this]; rfl
      · have : P = fun w => decide (0 < w) := by funext w; simp [P]
        rw [this]; rfl
      · have : P = fun w => decide (w < 0) := by funext w; simp [P]
        rw [this]; rfl
      · have : P = fun w => decide (w = 0) := by funext w; simp [P]
        rw [this]; rfl
      · have : F = fun w => w := by funext w; simp [F]
        rw [this]; rfl
      · have : F = fun w => -1 - w := by funext w; simp [F]
        rw [this]; rfl
    unfold wX3_tally_26
    refine wloop_up 39366 (fun j v => j ≤ 39366 ∧ v = (nI n, nI (39366 * k), nI (talC d l P j), iI (lonC d l F j), nI (39366 * k + j), st3)) 0 ⟨by omega, rfl⟩ ?_
    rintro j v L ⟨hj, rfl⟩ hL
    dsimp only
    unfold wX3_tally_26_b
    rw [show (39366 : Int32) = nI 39366 from rfl, nI_add]
    have htl := talC_le d l P j
    refine ⟨fun hc => ?_, fun hc => ?_⟩
    · have : 39366 * k + 39366 ≤ 39366 * k + j := nle_of hc
      obtain rfl : j = 39366 := by omega
      unfold wX3_tally_154 wX3_tally_163 wX3_tally_159 wX3_tally_165
      refine ⟨fun h4 => key _ ?_, fun h4 => key _ ?_⟩
      · rw [if_pos (nle_of (a := 4) h4)]
      · rw [if_neg (Nat.not_le.mpr (nlt_of (a := 4) h4))]
    · have hj2 : j < 39366 := by
        have : 39366 * k + j < 39366 * k + 39366 := nlt_of hc
        omega
      have hbo := bOf_ok hj2
      have hlr := lonC_rng hd hl hF j (by omega)
      unfold wX3_tally_35
      rw [nI_clamp (n := 39366 * k + j) (by omega), hv j hj2]
      refine ⟨vin (by omega), fun h5 => ?_, fun h5 => ?_⟩
      · have hg : legB d (bOf j) = true := by
          apply Classical.byContradiction
          intro hg
          unfold finC at h5
          rw [if_neg hg] at h5
          exact h5 rfl
        have hr := wrb_rng hd hl hbo.1 hg
        have ef : finC d l j = iI (wrb d l (bOf j)) := by unfold finC; rw [if_pos hg]
        rw [ef]
        have ets : talC d l P (j + 1) = talC d l P j + (if P (wrb d l (bOf j)) then 1 else 0) := by rw [talC_succ, hg, Bool.true_and]
        have els : lonC d l F (j + 1) = max (lonC d l F j) (F (wrb d l (bOf j))) := by
          conv => lhs; unfold lonC
          rw [if_pos hg]
        generalize wrb d l (bOf j) = w at *
        -- the second half: the longest
        have tail : ∀ c : Nat, c = talC d l P (j + 1) → wX3_tally_95 (qX3_tally (nI n) st) (fun x1 x2 x3 x4 x5 st => L (x1, x2, x3, x4, x5, st)) (nI n) (nI (39366 * k)) (iI (lonC d l F j)) (nI (39366 * k + j)) (iI w) (nI c) (nI 0) st3 := by
          intro c ec
          subst ec
          simp only [wX3_tally_95, wX3_tally_112, wX3_tally_102, wX3_tally_107, wX3_tally_117, wX3_tally_122, wX3_tally_129, wX3_tally_130, wX3_tally_144, wX3_tally_139, wX3_tally_146, wX3_tally_148]
          have nx : ∀ m : Int, m = lonC d l F (j + 1) → L (nI n, nI (39366 * k), nI (talC d l P (j + 1)) + nI 0, iI m, nI (39366 * k + j) + (1 : Int32), st3) := by
            intro m em
            refine hL _ hj2 ⟨by omega, ?_⟩
            rw [em, nI_add, Nat.add_zero, nI_1]
            rfl
          have fin : ∀ m : Int, -20 ≤ m → m ≤ 20 → max (lonC d l F j) m = lonC d l F (j + 1) → (iI m ≤ iI (lonC d l F j) → L (nI n, nI (39366 * k), nI (talC d l P (j + 1)) + nI 0, iI (lonC d l F j), nI (39366 * k + j) + (1 : Int32), st3)) ∧ (¬ iI m ≤ iI (lonC d l F j) → L (nI n, nI (39366 * k), nI (talC d l P (j + 1)) + nI 0, iI m, nI (39366 * k + j) + (1 : Int32), st3)) := by
            intro m m1 m2 em
            rw [iI_le]
            refine ⟨fun z => nx _ ?_, fun z => nx _ ?_⟩ <;> omega
          have e0 : (0 : Int32) = iI 0 := rfl
          have en1 : (-1 : Int32) - iI w = iI (-1 - w) := by rw [show (-1 : Int32) = iI (-1) from rfl, iI_sub]
          rw [e0, en1]
          have c4 : (nI n = (4 : Int32)) ↔ n = 4 := ⟨fun z => nI_inj (b := 4) z, fun z => by rw [z]; rfl⟩
          have c5 : (nI n = (5 : Int32)) ↔ n = 5 := ⟨fun z => nI_inj (b := 5) z, fun z => by rw [z]; rfl⟩
          have c6 : (iI w ≤ iI 0) ↔ w ≤ 0 := iI_le
          have c7 : (iI 0 ≤ iI w) ↔ 0 ≤ w := iI_le
          rw [c4, c5, c6, c7]
          have hFw : F w = if n = 4 then w else if n = 5 then -1 - w else 0 := rfl
          rw [hFw] at els
          refine ⟨fun g4 => ⟨fun g5 => fin 0 (by omega) (by omega) ?_, fun g5 => ⟨fun g6 => fin 0 (by omega) (by omega) ?_, fun g6 => fin (-1 - w) (by omega) (by omega) ?_⟩⟩, fun g4 => ⟨fun g6 => ⟨fun g5 => fin 0 (by omega) (by omega) ?_, fun g5 => ?_⟩, fun g6 => fin w (by omega) (by omega) ?_⟩⟩
          · rw [els, if_neg g4, if_neg g5]
          · rw [els, if_neg g4, if_pos g5]; omega
          · rw [els, if_neg g4, if_pos g5]
          · rw [els, if_pos g4]; omega
          · omega
          · rw [els, if_pos g4]
        have tail1 : P w = true → wX3_tally_95 (qX3_tally (nI n) st) (fun x1 x2 x3 x4 x5 st => L (x1, x2, x3, x4, x5, st)) (nI n) (nI (39366 * k)) (iI (lonC d l F j)) (nI (39366 * k + j)) (iI w) (nI (talC d l P j)) (1 : Int32) st3 := by
          intro hP
          have := tail (talC d l P j + 1) (by rw [ets, hP]; rfl)
          unfold wX3_tally_95 at this ⊢
          rw [nI_add, Nat.add_zero, ← nI_1] at this
          exact this
        have tail0 : P w = false → wX3_tally_95 (qX3_tally (nI n) st) (fun x1 x2 x3 x4 x5 st => L (x1, x2, x3, x4, x5, st)) (nI n) (nI (39366 * k)) (iI (lonC d l F j)) (nI (39366 * k + j)) (iI w) (nI (talC d l P j)) (0 : Int32) st3 := by
          intro hP
          exact tail (talC d l P j) (by rw [ets, hP]; rfl)
        unfold wX3_tally_55 wX3_tally_60 wX3_tally_65 wX3_tally_70 wX3_tally_75 wX3_tally_80 wX3_tally_85 wX3_tally_90 wX3_tally_94
        have c0 : (nI n = (0 : Int32)) ↔ n = 0 := ⟨fun z => nI_inj (b := 0) z, fun z => by rw [z]; rfl⟩
        have c1 : (nI n = (1 : Int32)) ↔ n = 1 := ⟨fun z => nI_inj (b := 1) z, fun z => by rw [z]; rfl⟩
        have c2 : (nI n = (2 : Int32)) ↔ n = 2 := ⟨fun z => nI_inj (b := 2) z, fun z => by rw [z]; rfl⟩
        have c3 : (nI n = (3 : Int32)) ↔ n = 3 := ⟨fun z => nI_inj (b := 3) z, fun z => by rw [z]; rfl⟩
        have w0 : ((0 : Int32) < iI w) ↔ 0 < w := by rw [show (0 : Int32) = iI 0 from rfl, iI_lt]
        have w1 : (iI w < (0 : Int32)) ↔ w < 0 := by rw [show (0 : Int32) = iI 0 from rfl, iI_lt]
        have w2 : (iI w = (0 : Int32)) ↔ w = 0 := by rw [show (0 : Int32) = iI 0 from rfl, iI_eq]
        rw [c0, c1, c2, c3, w0, w1, w2]
        have hPt : (n = 0 ∨ (n = 1 ∧ 0 < w) ∨ (n = 2 ∧ w < 0) ∨ (n = 3 ∧ w = 0)) → P w = true := fun z => decide_eq_true z
        have hPf : ¬ (n = 0 ∨ (n = 1 ∧ 0 < w) ∨ (n = 2 ∧ w < 0) ∨ (n = 3 ∧ w = 0)) → P w = false := fun z => decide_eq_false z
        refine ⟨fun g0 => tail1 (hPt (Or.inl g0)), fun g0 => ⟨fun g1 => ⟨fun g2 => ⟨fun g3 => tail0 (hPf ?_), fun g3 => ⟨fun g4 => tail0 (hPf ?_), fun g4 => tail1 (hPt ?_)⟩⟩, fun g2 => ⟨fun g3 => tail1 (hPt ?_), fun g3 => ⟨fun g4 => tail0 (hPf ?_), fun g4 => ?_⟩⟩⟩, fun g1 => ⟨fun g2 => tail1 (hPt ?_), fun g2 => ⟨fun g3 => ⟨fun g4 => tail0 (hPf ?_), fun g4 => ?_⟩, fun g3 => ?_⟩⟩⟩⟩
        · omega
        · omega
        · omega
        · omega
        · omega
        · omega
        · omega
        · omega
        · omega
        · omega
      · have hg : ¬ legB d (bOf j) = true := by
          intro hg
          have hr := wrb_rng hd hl hbo.1 hg
          unfold finC at h5
          rw [if_pos hg, show (2000 : Int32) = iI 2000 from rfl, iI_eq] at h5
          omega
        unfold wX3_tally_52 wX3_tally_148
        refine hL _ hj2 ⟨by omega, ?_⟩
        have e1 : talC d l P (j + 1) = talC d l P j := by
          rw [talC_succ]
          simp [hg]
        have e2 : lonC d l F (j + 1) = lonC d l F j := by
          conv => lhs; unfold lonC
          rw [if_neg hg]
        rw [e1, e2, nI_1]
        rfl
  · have hx := b2_0.mp h2
    have hx' := of_decide_eq_false hx
    refine ⟨frm.refl _ _ _, htb, fun d' l' hs' => ?_⟩
    have ne : ∀ n : Nat, n ≤ 5 → ¬ x1 = nI n := by
      intro n hn z
      apply hx'
      rw [z, iI_nI, iI_toInt (by omega) (by omega)]
      omega
    unfold talG
    rw [if_neg (show ¬ x1 = 0 from ne 0 (by decide)), if_neg (show ¬ x1 = 1 from ne 1 (by decide)), if_neg (show ¬ x1 = 2 from ne 2 (by decide)), if_neg (show ¬ x1 = 3 from ne 3 (by decide)), if_neg (show ¬ x1 = 4 from ne 4 (by decide)), if_neg (show ¬ x1 = 5 from ne 5 (by decide))]
