/-! VC of MorrisTables, F: put -/
theorem wb_sar {n k : Nat} (hn : n < 2 ^ 63) (hk : k < 64) : lN n >>> ((nI k).toInt64 &&& 63) = lN (n / 2 ^ k) := by
  rw [wb_c k hk]
  apply wb_inj
  rw [Int64.toBitVec_shiftRight, wb_tb, wb_tb, wb_tb, wb_sm k hk]
  have hm : (BitVec.ofNat 64 n).msb = false := by
    rw [BitVec.msb_eq_false_iff_two_mul_lt, BitVec.toNat_ofNat, Nat.mod_eq_of_lt (by omega)]; omega
  show (BitVec.ofNat 64 n).sshiftRight (BitVec.ofNat 64 k).toNat = _
  rw [BitVec.sshiftRight_eq_of_msb_false hm, BitVec.toNat_ofNat, Nat.mod_eq_of_lt (show k < 2 ^ 64 by omega)]
  apply BitVec.eq_of_toNat_eq
  rw [BitVec.toNat_ushiftRight, BitVec.toNat_ofNat, BitVec.toNat_ofNat, Nat.mod_eq_of_lt (show n < 2 ^ 64 by omega), Nat.shiftRight_eq_div_pow, Nat.mod_eq_of_lt]
  exact Nat.lt_of_le_of_lt (Nat.div_le_self _ _) (by omega)
theorem ch256 : ∀ z, z < 256 → ((nI z).toUInt32 % 65536).toInt32 = nI z := by decide +kernel
theorem unp_0 (k : Nat) : unp k 0 = some [] := by
  cases k with
  | zero => rfl
  | succ k => rfl
theorem lz {R : Nat} (h : R < 2 ^ 64) : (lg_cmp (lN R) (0 : Int64) = 0) ↔ R = 0 := by
  rw [lg_cmp_eq]
  constructor
  · intro z
    have := congrArg (fun y : Int64 => y.toBitVec.toNat) z
    have h0 : ((0 : Int64)).toBitVec.toNat = 0 := rfl
    simp only [h0] at this
    rw [wb_tn h] at this
    exact this
  · intro z; rw [z]; rfl
theorem vcX0_put {S : CS} (x1 : Int64) (hS : cOk S) : wX0_put_0 (false, pS S, (ptCl x1 S), (ptSl x1 S)) (fun r S' => ptPo x1 S r S') x1 S false 0 0 := by
  obtain ⟨N, hN, ex⟩ := wb_of x1
  have hxN : x1.toBitVec.toNat = N := by rw [ex]; exact wb_tn hN
  have hpd : pdS S.2.2.2.1 := ⟨hS.1.2.2.2.2.2.1, hS.1.2.2.2.2.2.2⟩
  have hSn : unp 8 N = none → sPut x1 (rep S) = (-2, rep S) := fun hu => by unfold sPut; rw [hxN, hu]
  have hSe : unp 8 N = some [] → sPut x1 (rep S) = (-2, rep S) := fun hu => by unfold sPut; rw [hxN, hu]
  have hSc : ∀ c r, unp 8 N = some (c :: r) → sPut x1 (rep S) = if S.2.2.2.1.2.2.2.length + (c :: r).length ≤ 80 then (nI (S.2.2.2.1.2.2.2.length + (c :: r).length), ((rep S).1, (rep S).2.1, (rep S).2.2.1, S.2.2.2.1.2.2.2 ++ (c :: r).reverse)) else (-4, rep S) := fun c r hu => by unfold sPut; rw [hxN, hu]; rfl
  have fail : ∀ r, sPut x1 (rep S) = (r, rep S) → ptPo x1 S r S := by
    intro r h
    have hm : ptM x1 S = 0 := by
      unfold ptM
      rw [h]
      exact Nat.sub_self _
    refine ⟨by rw [h], S.2.2.2.1, rfl, by rw [h]; rfl, ?_, hpd⟩
    rw [hm]
    rfl
  have fin : ∀ i, i ≤ 8 → (∀ j, j < i → 33 ≤ N / 256 ^ j % 256 ∧ N / 256 ^ j % 256 ≤ 126) → ((N / 256 ^ i = 0 ∧ unp 8 N = some (dgs N i)) ∨ (N / 256 ^ i ≠ 0 ∧ unp 8 N = none)) → wX0_put_55 (false, pS S, (ptCl x1 S), (ptSl x1 S)) (fun r S' => ptPo x1 S r S') x1 (nI i) (lN (N / 256 ^ i)) S false 0 0 := by
    intro i hi hc hu
    have hdl : N / 256 ^ i ≤ N := Nat.div_le_self _ _
    unfold wX0_put_55 wX0_put_59 wX0_put_66
    rw [lz (by omega)]
    rcases hu with ⟨hR, hu⟩ | ⟨hR, hu⟩
    · cases i with
      | zero =>
        refine ⟨fun _ => ⟨fail _ (hSe hu), rfl⟩, fun z => absurd rfl z⟩
      | succ i =>
        obtain ⟨c, r, hcr⟩ : ∃ c r, dgs N (i + 1) = c :: r := by
          cases hd : dgs N (i + 1) with
          | nil => have := dgs_len N (i + 1); rw [hd] at this; cases this
          | cons c r => exact ⟨c, r, rfl⟩
        have hlen : (c :: r).length = i + 1 := by rw [← hcr, dgs_len]
        have hS2 : sPut x1 (rep S) = if S.2.2.2.1.2.2.2.length + (i + 1) ≤ 80 then (nI (S.2.2.2.1.2.2.2.length + (i + 1)), ((rep S).1, (rep S).2.1, (rep S).2.2.1, S.2.2.2.1.2.2.2 ++ (dgs N (i + 1)).reverse)) else (-4, rep S) := by
          rw [hSc c r (by rw [hu, hcr]), hcr, hlen]
        have hp80 := hpd.1.1
        refine ⟨fun z => absurd z (nI_ne0 (by omega) (by omega)), fun _ => ⟨fun _ => ?_, fun z => absurd hR z⟩⟩
        unfold wX0_put_69 wX0_put_83 wX0_put_86
        rw [nI_add]
        refine ⟨fun h5 => ?_, fun h5 => ?_⟩
        · have h6 : S.2.2.2.1.2.2.2.length + (i + 1) ≤ 80 := nle_of (b := 80) h5
          rw [if_pos h6] at hS2
          have hm : ptM x1 S = i + 1 := by
            unfold ptM
            rw [hS2]
            show (S.2.2.2.1.2.2.2 ++ (dgs N (i + 1)).reverse).length - _ = _
            rw [List.length_append, List.length_reverse, dgs_len]
            omega
          have hN63 : N < 2 ^ 63 := by
            have h7 : N < 256 ^ (i + 1) := by
              rcases Nat.lt_or_ge N (256 ^ (i + 1)) with z | z
              · exact z
              · have := Nat.div_pos z (Nat.pow_pos (by decide))
                omega
            rcases (show i + 1 ≤ 7 ∨ i = 7 by omega) with z | z
            · have : 256 ^ (i + 1) ≤ 256 ^ 7 := Nat.pow_le_pow_right (by decide) z
              have e7 : 256 ^ 7 < 2 ^ 63 := by decide
              omega
            · subst z
              have h8 := (hc 7 (by omega)).2
              have h9 : N / 256 ^ 7 < 256 := by
                rw [Nat.div_lt_iff_lt_mul (by decide)]
                have : 256 * 256 ^ 7 = 2 ^ 64 := by decide
                omega
              rw [Nat.mod_eq_of_lt h9] at h8
              have h10 : N < 127 * 256 ^ 7 := by
                rw [← Nat.div_lt_iff_lt_mul (by decide)]
                omega
              have : 127 * 256 ^ 7 < 2 ^ 63 := by decide
              omega
          unfold wX0_put_91
          refine wloop_dn (fun n v => n ≤ i + 1 ∧ ∃ y cc sc, v = (x1, nI n + (-1 : Int32), cPad S y S.2.2.2.2.2, false, cc, sc) ∧ y.2.2.2 = S.2.2.2.1.2.2.2 ++ ((dgs N (i + 1)).drop n).reverse ∧ pdS y ∧ cc + agC y.2.2.2.length y.2.1 n = ptCl x1 S ∧ sc + agS y.2.2.2.length y.2.1 n = ptSl x1 S ∧ agK y.2.2.2.length y.2.1 n = agK S.2.2.2.1.2.2.2.length S.2.2.2.1.2.1 (ptM x1 S)) (i + 1) ⟨by omega, S.2.2.2.1, 0, 0, ?_, ?_, hpd, ?_, ?_, by rw [hm]⟩ ?_
          · rw [neg1_n, show nI (i + 1) - (1 : Int32) = nI i from nI_pred i]
            rfl
          · rw [List.drop_of_length_le (by rw [dgs_len]; exact Nat.le_refl _)]
            simp
          · unfold ptCl; rw [hm, Nat.zero_add]
          · unfold ptSl; rw [hm, Nat.zero_add]
          · rintro n v L ⟨hn, y, cc, sc, rfl, hy, hpy, hcc, hsc, hk⟩ hL
            dsimp only
            unfold wX0_put_91_b wX0_put_123 wX0_put_96
            cases n with
            | zero =>
              refine ⟨fun _ => ⟨⟨?_, y, rfl, ?_, ?_, hpy⟩, rfl⟩, fun z => absurd (show nI 0 + (-1 : Int32) < 0 by decide) z⟩
              · show nI y.2.2.2.length = _
                rw [hy, hS2, List.drop_zero, List.length_append, List.length_reverse, dgs_len]
              · rw [hy, hS2, List.drop_zero]
              · exact hk
            | succ n =>
              rw [neg1_n]
              have hl2 : y.2.2.2.length = S.2.2.2.1.2.2.2.length + (i - n) := by rw [hy, List.length_append, List.length_reverse, List.length_drop, dgs_len]; omega
              have hcn := hc n (by omega)
              have hch : ((((x1 >>> (((8 : Int32) * nI n).toInt64 &&& 63)) &&& (255 : Int64)).toInt32).toUInt32 % 65536).toInt32 = nI (N / 256 ^ n % 256) := by
                rw [ex, show (8 : Int32) * nI n = nI (8 * n) from pk_mul 8 n, wb_sar hN63 (by omega), show 2 ^ (8 * n) = 256 ^ n from by rw [Nat.pow_mul], show (255 : Int64) = lN (2 ^ 8 - 1) from rfl, wb_mask (by have := Nat.div_le_self N (256 ^ n); omega) (by decide), lN_i]
                exact ch256 _ (Nat.mod_lt _ (by decide))
              rw [hch]
              refine ⟨fun z => absurd z (nI_pos (by omega)), fun _ => ⟨⟨hpy.1.2.1, hpy.1.2.2.1, hpy.2, _, by omega, rfl⟩, ⟨?_, ?_⟩, fun S2 h2 => ?_⟩⟩
              · show cc + apC y.2.2.2.length y.2.1 ≤ ptCl x1 S
                have : agC y.2.2.2.length y.2.1 (n + 1) = apC y.2.2.2.length y.2.1 + agC (y.2.2.2.length + 1) (if y.2.2.2.length < y.2.1 then y.2.1 else 2 * y.2.1 + 2) n := rfl
                omega
              · show sc + apS y.2.2.2.length y.2.1 ≤ ptSl x1 S
                have : agS y.2.2.2.length y.2.1 (n + 1) = apS y.2.2.2.length y.2.1 + agS (y.2.2.2.length + 1) (if y.2.2.2.length < y.2.1 then y.2.1 else 2 * y.2.1 + 2) n := rfl
                omega
              · obtain ⟨b, rfl⟩ := h2
                rw [nI_clamp (by omega)]
                have hap := apP_ok (b := b) hpy (by omega) hcn.1 hcn.2
                have hl3 : (apP y b (N / 256 ^ n % 256)).2.2.2.length = y.2.2.2.length + 1 := by rw [hap.1, List.length_append]; rfl
                refine hL n _ rfl ⟨by omega, apP y b (N / 256 ^ n % 256), cc + apC y.2.2.2.length y.2.1, sc + apS y.2.2.2.length y.2.1, rfl, ?_, hap.2.2, ?_, ?_, ?_⟩
                · rw [hap.1, hy, dgs_drop (n := n) (show n < i + 1 by omega), List.reverse_cons, List.append_assoc]
                · rw [hl3, hap.2.1, Nat.add_assoc]
                  exact hcc
                · rw [hl3, hap.2.1, Nat.add_assoc]
                  exact hsc
                · rw [hl3, hap.2.1]
                  exact hk
        · have h6 : ¬ S.2.2.2.1.2.2.2.length + (i + 1) ≤ 80 := Nat.not_le.mpr (nlt_of (b := 80) h5)
          rw [if_neg h6] at hS2
          exact ⟨fail _ hS2, rfl⟩
    · exact ⟨fun _ => ⟨fail _ (hSn hu), rfl⟩, fun _ => ⟨fun z => absurd z hR, fun _ => ⟨fail _ (hSn hu), rfl⟩⟩⟩
  unfold wX0_put_0 wX0_put_5
  refine wloop_up 8 (fun i v => i ≤ 8 ∧ v = (x1, nI i, lN (N / 256 ^ i), S, false, 0, 0) ∧ (∀ j, j < i → 33 ≤ N / 256 ^ j % 256 ∧ N / 256 ^ j % 256 ≤ 126) ∧ unp 8 N = (unp (8 - i) (N / 256 ^ i)).map (fun r => dgs N i ++ r)) 0 ⟨by omega, by rw [ex]; simp; rfl, fun j hj => by omega, ?_⟩ ?_
  · simp only [Nat.pow_zero, Nat.div_one, Nat.sub_zero]
    cases unp 8 N with
    | none => rfl
    | some r => simp [dgs]
  · rintro i v L ⟨hi, rfl, hc, hu⟩ hL
    dsimp only
    have hdl : N / 256 ^ i ≤ N := Nat.div_le_self _ _
    have hm256 : N / 256 ^ i % 256 < 256 := Nat.mod_lt _ (by decide)
    have hmk : lN (N / 256 ^ i) &&& (255 : Int64) = lN (N / 256 ^ i % 256) := by
      rw [show (255 : Int64) = lN (2 ^ 8 - 1) from rfl, wb_mask (by omega) (by decide)]
    unfold wX0_put_5_b wX0_put_11 wX0_put_22 wX0_put_39 wX0_put_42
    rw [hmk, lz (by omega)]
    refine ⟨fun h6 => fin i hi hc ?_, fun h6 => ⟨fun h5 => fin i hi hc ?_, fun h5 r7 h7 => ?_⟩⟩
    · have : 8 ≤ i := nle_of (a := 8) h6
      obtain rfl : i = 8 := by omega
      refine Or.inl ⟨Nat.div_eq_of_lt (by have : 256 ^ 8 = 2 ^ 64 := by decide
                                          omega), ?_⟩
      rw [hu, Nat.sub_self]
      show (some []).map _ = _
      simp
    · by_cases hR : N / 256 ^ i = 0
      · refine Or.inl ⟨hR, ?_⟩
        rw [hu, hR, unp_0]
        simp
      · refine Or.inr ⟨hR, ?_⟩
        obtain ⟨m, hm⟩ : ∃ m, 8 - i = m + 1 := ⟨8 - i - 1, by have : i < 8 := nlt_of (a := 8) h6; omega⟩
        rw [hu, hm]
        unfold unp
        rw [if_neg hR, h5]
        rfl
    · have hi8 : i < 8 := nlt_of (a := 8) h6
      have hsh : ((lN (N / 256 ^ i)).toUInt64 >>> ((8 : Int32).toInt64.toUInt64 &&& Int64.toUInt64 63)).toInt64 = lN (N / 256 ^ (i + 1)) := by
        have := wb_shr (n := N / 256 ^ i) (k := 8) (by omega) (by decide)
        rw [show (8 : Int32) = nI 8 from rfl, this, Nat.div_div_eq_div_mul, show 256 ^ i * 2 ^ 8 = 256 ^ (i + 1) from (Nat.pow_succ 256 i).symm]
      rw [lN_i] at h7
      rw [hsh]
      have e7 : r7 = b2 (decide (33 ≤ N / 256 ^ i % 256 ∧ N / 256 ^ i % 256 ≤ 126)) := by
        have e8 := isIn_eq 33 126 rfl rfl h7
        rw [e8, iI_nI, iI_toInt (by omega) (by omega)]
        congr 1
        rw [decide_eq_decide]
        omega
      subst e7
      obtain ⟨m, hm⟩ : ∃ m, 8 - i = m + 1 := ⟨8 - i - 1, by omega⟩
      have hR : ¬ N / 256 ^ i = 0 := fun z => h5 (by rw [z])
      have hstep : unp (8 - i) (N / 256 ^ i) = if decide (33 ≤ N / 256 ^ i % 256 ∧ N / 256 ^ i % 256 ≤ 126) then (unp m (N / 256 ^ i / 256)).map (fun r => N / 256 ^ i % 256 :: r) else none := by
        rw [hm]
        conv => lhs; unfold unp
        rw [if_neg hR]
      refine ⟨fun h8 => ?_, fun h8 => ?_⟩
      · have h9 := b2_n0.mp h8
        have h9' := of_decide_eq_true h9
        refine hL _ hi8 ⟨by omega, by rw [nI_1], fun j hj => ?_, ?_⟩
        · by_cases e : j = i
          · subst e; exact h9'
          · exact hc j (by omega)
        · rw [hu, hstep, h9, if_pos rfl, map_app, ← dgs_succ, Nat.div_div_eq_div_mul, ← Nat.pow_succ, show 8 - (i + 1) = m by omega]
      · have h9 := b2_0.mp h8
        have hnone : unp 8 N = none := by rw [hu, hstep, h9]; rfl
        exact ⟨fail _ (hSn hnone), rfl⟩
