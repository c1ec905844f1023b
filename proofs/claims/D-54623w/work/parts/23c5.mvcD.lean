/-! group D: the pad -/
theorem chP_app1 {P : List Nat} {c i : Nat} (h : i < P.length) : chP (P ++ [c]) i = chP P i := by
  unfold chP
  rw [List.getD_eq_getElem?_getD, List.getD_eq_getElem?_getD, List.getElem?_append_left h]
theorem chP_app2 {P : List Nat} {c : Nat} : chP (P ++ [c]) P.length = c := by
  unfold chP
  rw [List.getD_eq_getElem?_getD, List.getElem?_append_right (Nat.le_refl _)]
  simp
theorem pad_push {s : MS} {Q : List Nat} {c : Nat} (h : padOK s Q) (hl : Q.length < 80) (h1 : 33 ≤ c) (h2 : c ≤ 126) : padOK (mF (mA s 5 ((s.2 1)).toNatClampNeg (nI c)) 1 (((mA s 5 ((s.2 1)).toNatClampNeg (nI c)).2 1) + (1 : Int32))) (Q ++ [c]) := by
  refine ⟨by rw [List.length_append]; exact hl, ?_, fun i hi => ?_⟩
  · rw [mF_self, mA_F, h.2.1, nI_1, List.length_append]; rfl
  · rw [List.length_append] at hi
    have hi : i < Q.length + 1 := hi
    rw [mF_A, mA_self, h.2.1, nI_clamp (by omega)]
    by_cases e : i = Q.length
    · subst e
      rw [pk_us, chP_app2]
      exact ⟨rfl, h1, h2⟩
    · rw [pk_un e, chP_app1 (by omega)]
      exact h.2.2 i (by omega)
theorem vcX3_wipe (S : SS) (st : MS) (h : mOK st S) : wX3_wipe_0 (fun r st1 => r = (sWipe S).1 ∧ mOK st1 (sWipe S).2) st := by
  unfold wX3_wipe_0
  have hf : frm [] [1] st (mF st 1 (0 : Int32)) := frm_F (frm.refl _ _ _) (by simp)
  refine ⟨h.2.2.2.2.2.1, gst_frm hf (by simp) h.1, tabs_frm hf (by simp) (by simp) h.2.1, pastOK_frm hf (by simp) (by decide) h.2.2.1, slotOK_frm hf (by simp) (by simp) h.2.2.2.1, ?_⟩
  exact ⟨Nat.zero_le _, mF_self _ _ _, fun i hi => absurd hi (Nat.not_lt_zero i)⟩
def dgs (N i : Nat) : List Nat := (List.range i).map (fun j => N / 256 ^ j % 256)
theorem dgs_succ (N i : Nat) : dgs N (i + 1) = dgs N i ++ [N / 256 ^ i % 256] := by
  unfold dgs
  rw [List.range_succ, List.map_append]
  rfl
theorem dgs_len (N i : Nat) : (dgs N i).length = i := by simp [dgs]
theorem map_app (o : Option (List Nat)) (a : List Nat) (x : Nat) : (o.map (fun r => x :: r)).map (fun r => a ++ r) = o.map (fun r => (a ++ [x]) ++ r) := by
  cases o with
  | none => rfl
  | some r => simp
theorem dgs_drop {N i n : Nat} (h : n < i) : (dgs N i).drop n = N / 256 ^ n % 256 :: (dgs N i).drop (n + 1) := by
  rw [List.drop_eq_getElem_cons (by rw [dgs_len]; exact h)]
  congr 1
  simp [dgs]
theorem vcX3_put (x : Int64) (S : SS) (st : MS) (h : mOK st S) : wX3_put_0 (fun r st1 => r = (sPut x S).1 ∧ mOK st1 (sPut x S).2) x st := by
  obtain ⟨N, hN, ex⟩ := wb_of x
  have hxN : x.toBitVec.toNat = N := by rw [ex]; exact wb_tn hN
  have hSn : unp 8 N = none → sPut x S = (-2, S) := fun hu => by unfold sPut; rw [hxN, hu]
  have hSe : unp 8 N = some [] → sPut x S = (-2, S) := fun hu => by unfold sPut; rw [hxN, hu]
  have hSc : ∀ c r, unp 8 N = some (c :: r) → sPut x S = if S.2.2.2.length + (c :: r).length ≤ 80 then (nI (S.2.2.2.length + (c :: r).length), (S.1, S.2.1, S.2.2.1, S.2.2.2 ++ (c :: r).reverse)) else (-4, S) := fun c r hu => by unfold sPut; rw [hxN, hu]
  generalize hP : S.2.2.2 = P at *
  have hpad : padOK st P := by rw [← hP]; exact h.2.2.2.2
  have hp80 := hpad.1
  -- the end: all characters are read
  have fin : ∀ (i : Nat) (s1 : MS), i ≤ 8 → frm [6] [] st s1 → (∀ j, j < i → s1.1 6 j = nI (N / 256 ^ j % 256) ∧ 33 ≤ N / 256 ^ j % 256 ∧ N / 256 ^ j % 256 ≤ 126) → unp 8 N = some (dgs N i) → wX3_put_63 (fun r st1 => r = (sPut x S).1 ∧ mOK st1 (sPut x S).2) (nI i) s1 := by
    intro i s1 hi hf hc hu
    have hm1 : mOK s1 S := mOK_frm hf (by simp) (by simp) h
    have hpad1 : padOK s1 P := padOK_frm hf (by simp) (by simp) hpad
    unfold wX3_put_63 wX3_put_71 wX3_put_68 wX3_put_83 wX3_put_86
    rw [hpad1.2.1, nI_add]
    cases i with
    | zero =>
      refine ⟨fun z => absurd rfl z, fun _ => ?_⟩
      rw [hSe hu]
      exact ⟨rfl, hm1⟩
    | succ i =>
      obtain ⟨c, r, hcr⟩ : ∃ c r, dgs N (i + 1) = c :: r := by
        cases hd : dgs N (i + 1) with
        | nil => have := dgs_len N (i + 1); rw [hd] at this; cases this
        | cons c r => exact ⟨c, r, rfl⟩
      have hlen : (c :: r).length = i + 1 := by rw [← hcr, dgs_len]
      have hS2 : sPut x S = if P.length + (i + 1) ≤ 80 then (nI (P.length + (i + 1)), (S.1, S.2.1, S.2.2.1, P ++ (dgs N (i + 1)).reverse)) else (-4, S) := by
        rw [hSc c r (by rw [hu, hcr]), hcr, hlen]
      refine ⟨fun _ => ⟨fun h5 => ?_, fun h5 => ?_⟩, fun z => absurd z (nI_ne0 (by omega) (by omega))⟩
      · have h6 : P.length + (i + 1) ≤ 80 := nle_of (b := 80) h5
        rw [hS2, if_pos h6]
        unfold wX3_put_92
        refine wloop_dn (fun n v => n ≤ i + 1 ∧ ∃ s2, v = (nI n + (-1 : Int32), s2) ∧ frm [5] [1] s1 s2 ∧ padOK s2 (P ++ ((dgs N (i + 1)).drop n).reverse)) (i + 1) ⟨by omega, s1, ?_, frm.refl _ _ _, ?_⟩ ?_
        · rw [neg1_n, show nI (i + 1) - (1 : Int32) = nI i from nI_pred i]
        · rw [List.drop_of_length_le (by rw [dgs_len]; exact Nat.le_refl _)]
          simpa using hpad1
        · rintro n v L ⟨hn, s2, rfl, hf2, hp2⟩ hL
          dsimp only
          unfold wX3_put_92_b wX3_put_129 wX3_put_97
          cases n with
          | zero =>
            refine ⟨fun _ => ?_, fun z => absurd (show nI 0 + (-1 : Int32) < 0 by decide) z⟩
            rw [List.drop_zero] at hp2
            have hl2 : (P ++ (dgs N (i + 1)).reverse).length = P.length + (i + 1) := by rw [List.length_append, List.length_reverse, dgs_len]
            refine ⟨by rw [hp2.2.1, hl2], gst_frm hf2 (by simp) hm1.1, tabs_frm hf2 (by simp) (by simp) hm1.2.1, pastOK_frm hf2 (by simp) (by simp) hm1.2.2.1, slotOK_frm hf2 (by simp) (by simp) hm1.2.2.2.1, hp2⟩
          | succ n =>
            rw [neg1_n, nI_clamp (n := n) (by omega)]
            obtain ⟨c1, c2, c3⟩ := hc n (by omega)
            have hl2 : (P ++ ((dgs N (i + 1)).drop (n + 1)).reverse).length = P.length + (i - n) := by rw [List.length_append, List.length_reverse, List.length_drop, dgs_len]; omega
            refine ⟨fun z => absurd z (nI_pos (by omega)), fun _ => ⟨vin (by omega), ?_, hL n _ rfl ⟨by omega, _, rfl, frm_F (frm_A hf2 (by simp)) (by simp), ?_⟩⟩⟩
            · rw [hp2.2.1, hl2]; exact vin (by omega)
            · rw [hf2.1 6 (by simp), c1, dgs_drop (by omega), List.reverse_cons, ← List.append_assoc]
              exact pad_push hp2 (by rw [hl2]; omega) c2 c3
      · have h6 : ¬ P.length + (i + 1) ≤ 80 := Nat.not_le.mpr (nlt_of (b := 80) h5)
        rw [hS2, if_neg h6]
        exact ⟨rfl, hm1⟩
  unfold wX3_put_0 wX3_put_5
  refine wloop_up 8 (fun i v => i ≤ 8 ∧ ∃ s1, v = (lN (N / 256 ^ i), nI i, s1) ∧ frm [6] [] st s1 ∧ (∀ j, j < i → s1.1 6 j = nI (N / 256 ^ j % 256) ∧ 33 ≤ N / 256 ^ j % 256 ∧ N / 256 ^ j % 256 ≤ 126) ∧ unp 8 N = (unp (8 - i) (N / 256 ^ i)).map (fun r => dgs N i ++ r)) 0 ⟨by omega, st, by rw [ex]; simp; rfl, frm.refl _ _ _, fun j hj => by omega, ?_⟩ ?_
  · simp only [Nat.pow_zero, Nat.div_one, Nat.sub_zero]
    cases unp 8 N with
    | none => rfl
    | some r => simp [dgs]
  · rintro i v L ⟨hi, s1, rfl, hf, hc, hu⟩ hL
    dsimp only
    have hdl : N / 256 ^ i ≤ N := Nat.div_le_self _ _
    have hz : (lg_cmp (lN (N / 256 ^ i)) (0 : Int64) = 0) ↔ N / 256 ^ i = 0 := by
      rw [lg_cmp_eq]
      constructor
      · intro z
        have := congrArg (fun y : Int64 => y.toBitVec.toNat) z
        have h0 : ((0 : Int64)).toBitVec.toNat = 0 := rfl
        simp only [h0] at this
        rw [wb_tn (by omega)] at this
        exact this
      · intro z; rw [z]; rfl
    unfold wX3_put_5_b wX3_put_11 wX3_put_18 wX3_put_49 wX3_put_52
    rw [hz]
    refine ⟨fun h5 => fin i s1 hi hf hc ?_, fun h5 => ⟨fun h6 => fin i s1 hi hf hc ?_, fun h6 => ?_⟩⟩
    · rw [hu, h5]
      have : unp (8 - i) 0 = some [] := by
        cases 8 - i with
        | zero => rfl
        | succ k => rfl
      rw [this]
      simp
    · have : 8 ≤ i := nle_of (a := 8) h6
      obtain rfl : i = 8 := by omega
      rw [hu, Nat.sub_self]
      show (some []).map _ = _
      simp
    · have hi8 : i < 8 := nlt_of (a := 8) h6
      have hv : (lN (N / 256 ^ i) &&& (255 : Int64)).toInt32 = nI (N / 256 ^ i % 256) := by
        rw [show (255 : Int64) = lN (2 ^ 8 - 1) from rfl, wb_mask (by omega) (by decide), lN_i]
      have hsh : ((lN (N / 256 ^ i)).toUInt64 >>> ((8 : Int32).toInt64.toUInt64 &&& Int64.toUInt64 63)).toInt64 = lN (N / 256 ^ (i + 1)) := by
        have := wb_shr (n := N / 256 ^ i) (k := 8) (by omega) (by decide)
        rw [show (8 : Int32) = nI 8 from rfl, this, Nat.div_div_eq_div_mul, show 256 ^ i * 2 ^ 8 = 256 ^ (i + 1) from (Nat.pow_succ 256 i).symm]
      have hm256 : N / 256 ^ i % 256 < 256 := Nat.mod_lt _ (by decide)
      rw [nI_clamp (n := i) (by omega), hv, hsh, mA_self, pk_us]
      refine ⟨vin hi8, vin hi8, fun r7 h7 => ?_⟩
      have e7 : r7 = b2 (decide (33 ≤ N / 256 ^ i % 256 ∧ N / 256 ^ i % 256 ≤ 126)) := by
        unfold qX3_in at h7
        rw [h7, Int32.toInt_toInt64, iI_nI, iI_toInt (by omega) (by omega)]
        congr 1
        rw [decide_eq_decide]
        show (33 : Int) ≤ _ ∧ _ ≤ (126 : Int) ↔ _
        omega
      subst e7
      obtain ⟨m, hm⟩ : ∃ m, 8 - i = m + 1 := ⟨8 - i - 1, by omega⟩
      have hstep : unp (8 - i) (N / 256 ^ i) = if decide (33 ≤ N / 256 ^ i % 256 ∧ N / 256 ^ i % 256 ≤ 126) then (unp m (N / 256 ^ i / 256)).map (fun r => N / 256 ^ i % 256 :: r) else none := by
        rw [hm]
        conv => lhs; unfold unp
        rw [if_neg h5]
      refine ⟨fun h8 => ?_, fun h8 => ?_⟩
      · have h9 := b2_n0.mp h8
        have h9' := of_decide_eq_true h9
        refine hL _ hi8 ⟨by omega, _, by rw [nI_1], frm_A hf (by simp), fun j hj => ?_, ?_⟩
        · rw [mA_self]
          by_cases e : j = i
          · subst e; rw [pk_us]; exact ⟨rfl, h9'⟩
          · rw [pk_un e]; exact hc j (by omega)
        · rw [hu, hstep, h9, if_pos rfl, map_app, ← dgs_succ, Nat.div_div_eq_div_mul, ← Nat.pow_succ, show 8 - (i + 1) = m by omega]
      · have h9 := b2_0.mp h8
        have hnone : unp 8 N = none := by rw [hu, hstep, h9]; rfl
        rw [hSn hnone]
        exact ⟨rfl, mOK_frm (frm_A hf (by simp)) (by simp) (by simp) h⟩
