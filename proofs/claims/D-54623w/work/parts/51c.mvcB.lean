/-! VC of MorrisTables, B -/
theorem vcX0_isPoint (x0 : Int32) : wX0_isPoint_0 (fun (r : Int32) (_ : Unit) => qX0_isPoint x0 r) x0 := by
  intro r h
  have e := isIn_eq 0 8 rfl rfl h
  rw [e]
  exact ⟨isB_b2 _, rfl⟩
theorem vcX0_bestMove {S : CS}  (hS : cOk S) (ho : overG S.1.2 = false) : wX0_bestMove_0 (true, pS S, 0, 0) (fun r S' => r = nI (bestG S.1.2) ∧ S' = S)  S false 0 0 := by
  have hc := cur_ok hS.1.1
  have hb := best_mem hS.1.1 ho
  have hw := wrb_rng hS.1.1.1 hS.1.1.2.1 hc.1 hc.2
  have hwG : -11 ≤ wG S.1.2 ∧ wG S.1.2 ≤ 10 := hw
  have hdue : -11 ≤ due (wG S.1.2) ∧ due (wG S.1.2) ≤ 11 := by
    unfold due
    split
    · omega
    · split <;> omega
  have loop : ∀ x, x = iI (due (wG S.1.2)) → wX0_bestMove_29 (true, pS S, 0, 0) (fun r S' => r = nI (bestG S.1.2) ∧ S' = S) x (0 : Int32) S true 0 0 := by
    intro x hx
    subst hx
    refine ⟨fun n v => ∃ q, n + q = 91 ∧ q ≤ bestG S.1.2 ∧ v = (iI (due (wG S.1.2)), nI q, S, true, 0, 0), 91, ⟨0, rfl, Nat.zero_le _, rfl⟩, ?_⟩
    rintro n v ⟨q, hn, hqb, rfl⟩
    have hb91 := mvC_lt hb.1
    have nx : ∀ (h : q ≠ bestG S.1.2), ∃ n', n' < n ∧ ∃ r, n' + r = 91 ∧ r ≤ bestG S.1.2 ∧ ((iI (due (wG S.1.2)), nI q + (1 : Int32), S, true, 0, 0) : Int32 × Int32 × CS × Bool × Nat × Nat) = (iI (due (wG S.1.2)), nI r, S, true, 0, 0) := by
      intro h
      refine ⟨n - 1, by omega, q + 1, by omega, by omega, ?_⟩
      rw [show nI q + (1 : Int32) = nI (q + 1) from nI_add q 1]
    dsimp only
    unfold wX0_bestMove_29_b wX0_bestMove_57 wX0_bestMove_48 wX0_bestMove_57 wX0_bestMove_63
    refine ⟨⟨hS, rfl, rfl⟩, hS.1, hS.1, hS.1, fun h => nx ?_, fun h => ?_⟩
    · intro z
      rw [b2_0, z, isMvX_n hb91] at h
      rw [(mem_mvl.mp hb.1).2] at h
      cases h
    · rw [b2_n0, isMvX_n (by omega)] at h
      have hq : q ∈ mvC S.1.2 := mem_mvl.mpr ⟨by omega, h⟩
      refine ⟨⟨hS, rfl, rfl⟩, ⟨q, hq, rfl⟩, fun h2 => ⟨⟨?_, rfl⟩, rfl⟩, fun h2 => nx fun z => h2 ?_⟩
      · rw [nI_clamp (by omega)] at h2
        have hqr : -11 ≤ wB S.1.2 q ∧ wB S.1.2 q ≤ 10 := wrb_rng hS.1.1.1 hS.1.1.2.1 (nxb_bok hc.1 (isMv_okm h)) (nxb_legal hc.1 hc.2 hq)
        have h3 := (iI_eq).mp h2
        rw [Nat.le_antisymm hqb (best_first hS.1.1 ho hq h3)]
      · rw [nI_clamp (by omega), z, hb.2]
  unfold wX0_bestMove_0 wX0_bestMove_14 wX0_bestMove_9 wX0_bestMove_25 wX0_bestMove_18 wX0_bestMove_26
  have h0 : (0 : Int32) = iI 0 := rfl
  refine ⟨⟨hS, rfl, rfl⟩, fun h => ⟨fun h2 => loop _ ?_, fun h2 => loop _ ?_⟩, fun h => loop _ ?_⟩
  · rw [h0, iI_le] at h h2
    have : wG S.1.2 = 0 := by omega
    rw [this]; rfl
  · rw [h0, iI_le] at h h2
    unfold due
    rw [if_neg (by omega), if_neg (by omega), show (-2 : Int32) = iI (-2) from rfl, iI_sub]
  · rw [h0, iI_le] at h
    unfold due
    rw [if_neg (by omega), if_pos (by omega), iI_neg]
theorem vcX0_at {S : CS} (x1 : Int32) (hS : cOk S) : wX0_at_0 (false, pS S, 0, 0) (fun r S' => r = sAt x1 (rep S) ∧ S' = S) x1 S false 0 0 := by
  intro r hr
  have hr : r = b2 (in09 x1) := hr
  subst hr
  unfold wX0_at_9 wX0_at_7 wX0_at_30 wX0_at_26 wX0_at_47 wX0_at_51 wX0_at_53
  have hc := cur_ok hS.1.1
  refine ⟨fun h => ?_, fun h => ⟨⟨?_, rfl⟩, rfl⟩⟩
  · rw [b2_n0] at h
    obtain ⟨n, hn, e, e2⟩ := in09_of h
    have b0 := bit_t (cur S.1.2).1 hc.1.1 n hn
    have b1 := bit_t (cur S.1.2).2.1 hc.1.2.1 n hn
    have hs : sAt x1 (rep S) = if (cur S.1.2).1.testBit n then 0 else if (cur S.1.2).2.1.testBit n then 1 else -6 := by
      unfold sAt
      rw [h, e2]
      rfl
    rw [hs, e]
    refine ⟨fun h2 => ⟨fun h3 => ⟨⟨?_, rfl⟩, rfl⟩, fun h3 => ⟨⟨?_, rfl⟩, rfl⟩⟩, fun h2 => ⟨⟨?_, rfl⟩, rfl⟩⟩
    · rw [if_neg (fun z => h2 (b0.mpr z)), if_neg (fun z => h3 (b1.mpr z))]
    · rw [if_neg (fun z => h2 (b0.mpr z)), if_pos (b1.mp h3)]
    · rw [if_pos (b0.mp h2)]
  · rw [b2_0] at h
    unfold sAt
    rw [h]; rfl
theorem vcX0_count {S : CS} (x1 : Int32) (hS : cOk S) : wX0_count_0 ((cntB x1), pS S, 0, 0) (fun r S' => r = sCount x1 (rep S) ∧ S' = S) x1 S false 0 0 := by
  have hc := cur_ok hS.1.1
  unfold wX0_count_0
  refine ⟨?_, ?_, ?_, ?_, ?_, ?_, ?_, ?_, ?_, ?_, ?_, ?_, ?_⟩
  · intro h; subst h; exact ⟨⟨rfl, rfl⟩, rfl⟩
  · intro h; subst h; exact ⟨⟨rfl, rfl⟩, rfl⟩
  · intro h; subst h; exact ⟨vin (n := 0) (by decide), fun r hr => ⟨⟨hr _ hc.1.1 rfl, rfl⟩, rfl⟩⟩
  · intro h; subst h; exact ⟨vin (n := 1) (by decide), fun r hr => ⟨⟨hr _ hc.1.2.1 rfl, rfl⟩, rfl⟩⟩
  · intro h; subst h
    refine ⟨⟨hS, rfl, rfl⟩, fun h => ⟨⟨?_, rfl⟩, rfl⟩, fun h => ⟨⟨?_, rfl⟩, rfl⟩⟩
    · show (0 : Int32) = b2 (overG S.1.2); rw [b2_0.mp h]; rfl
    · show (1 : Int32) = b2 (overG S.1.2); rw [b2_n0.mp h]; rfl
  · intro h; subst h
    refine ⟨⟨hS, rfl, rfl⟩, fun h => ⟨⟨?_, rfl⟩, rfl⟩, fun h => ⟨⟨?_, rfl⟩, rfl⟩⟩
    · show (-6 : Int32) = if lostG S.1.2 then nI (1 - (cur S.1.2).2.2) else -6; rw [b2_0.mp h]; rfl
    · show (1 : Int32) - nI (cur S.1.2).2.2 = if lostG S.1.2 then nI (1 - (cur S.1.2).2.2) else -6
      rw [b2_n0.mp h, if_pos rfl]
      exact sub_n (a := 1) (by have := hc.1.2.2.2; omega)
  · intro h; subst h
    refine ⟨⟨hS, rfl, rfl⟩, fun h => ⟨⟨?_, rfl⟩, rfl⟩, fun h => ⟨⟨?_, rfl⟩, rfl⟩⟩
    · show (0 : Int32) = b2 (decide (3 ≤ oftG S.1.2) && !lostG S.1.2); rw [b2_0.mp h]; rfl
    · show (1 : Int32) = b2 (decide (3 ≤ oftG S.1.2) && !lostG S.1.2); rw [b2_n0.mp h]; rfl
  · intro h; subst h; exact ⟨⟨hS.1.1, hS.2⟩, ⟨rfl, rfl⟩, rfl⟩
  · intro h; subst h; exact ⟨vin (n := 0) (by decide), ⟨rfl, rfl⟩, rfl⟩
  · intro h; subst h; exact ⟨vin (n := 1) (by decide), ⟨rfl, rfl⟩, rfl⟩
  · intro h; subst h; exact ⟨⟨rfl, rfl⟩, rfl⟩
  · intro h; subst h
    refine ⟨hS.1.2.2.2.1, ⟨?_, rfl⟩, rfl⟩
    show nI S.2.1.2.length = nI (S.2.1.2.map (fun x => x.2)).length
    rw [List.length_map]
  · intro h0 h1 h2 h3 h4 h5 h6 h7 h8 h9 h10 h11
    refine ⟨⟨?_, rfl⟩, ?_⟩
    · unfold sCount
      rw [if_neg h0, if_neg h1, if_neg h2, if_neg h3, if_neg h4, if_neg h5, if_neg h6, if_neg h7, if_neg h8, if_neg h9, if_neg h10, if_neg h11]
    · show cntB x1 = false
      unfold cntB
      exact decide_eq_false (fun z => by rcases z with z | z | z <;> contradiction)
theorem nb_nx (d p : Nat) : nbM d p 9 = nxM d p := by
  unfold nxM
  rw [show List.range 9 = [0, 1, 2, 3, 4, 5, 6, 7, 8] from rfl]
  rfl
theorem vcX0_neighbours {S : CS} (x1 : Int32) (hS : cOk S) : wX0_neighbours_0 ((in09 x1), pS S, 0, 0) (fun r S' => r = sNb x1 (rep S) ∧ S' = S) x1 S false 0 0 := by
  intro r hr
  have hr : r = b2 (in09 x1) := hr
  subst hr
  unfold wX0_neighbours_18 wX0_neighbours_7 wX0_neighbours_19
  refine ⟨fun h => ⟨⟨?_, rfl⟩, b2_0.mp h⟩, fun h => ?_⟩
  · unfold sNb
    rw [b2_0.mp h]; rfl
  · rw [b2_n0] at h
    obtain ⟨n, hn, e, e2⟩ := in09_of h
    refine ⟨⟨hS, h, rfl⟩, n, ⟨hS.1, hn, e⟩, ⟨?_, rfl⟩, h⟩
    unfold sNb
    rw [h, e2, nb_nx]; rfl
theorem vcX0_move {S : CS} (x1 : Int32) (hS : cOk S) : wX0_move_0 (true, pS S, 0, 0) (fun r S' => r = sMove x1 (rep S) ∧ S' = S) x1 S false 0 0 := by
  unfold wX0_move_0 wX0_move_7 wX0_move_11 wX0_move_13
  refine ⟨⟨hS, rfl, rfl⟩, fun h => ⟨⟨?_, rfl⟩, rfl⟩, fun h => ⟨fun h1 => ?_, fun h1 => ⟨⟨?_, rfl⟩, rfl⟩⟩⟩
  · unfold sMove
    rw [show mvG (rep S).1 = [] from by unfold mvG; rw [show overG (rep S).1 = true from b2_n0.mp h]; rfl]
    rw [decide_eq_false (by intro z; have := z.1; have := z.2; simp at *; omega)]
    rfl
  · have ho : overG S.1.2 = false := b2_0.mp h
    have hmv : mvG (rep S).1 = (List.range 91).filter (isMv S.1.2.1 S.1.2.2.1 (meB (cur S.1.2)) (otB (cur S.1.2))) := by
      unfold mvG
      rw [show overG (rep S).1 = false from ho]
      rfl
    have h1' : (0 : Int) ≤ x1.toInt := by
      have := Int32.le_iff_toInt_le.mp h1
      exact this
    have ex := of_nn h1'
    have hlt : x1.toInt < 2147483648 := by have := Int32.toInt_lt x1; omega
    generalize hn : x1.toInt.toNat = n at *
    have hspec : sMove x1 (rep S) = if n < ((List.range 91).filter (isMv S.1.2.1 S.1.2.2.1 (meB (cur S.1.2)) (otB (cur S.1.2)))).length then nI (((List.range 91).filter (isMv S.1.2.1 S.1.2.2.1 (meB (cur S.1.2)) (otB (cur S.1.2)))).getD n 0) else -1 := by
      unfold sMove
      rw [hmv, hn]
      by_cases z : n < ((List.range 91).filter (isMv S.1.2.1 S.1.2.2.1 (meB (cur S.1.2)) (otB (cur S.1.2)))).length
      · rw [if_pos z, decide_eq_true ⟨h1', by omega⟩]; rfl
      · rw [if_neg z, decide_eq_false (by omega)]; rfl
    rw [hspec]
    generalize hP : isMv S.1.2.1 S.1.2.2.1 (meB (cur S.1.2)) (otB (cur S.1.2)) = P at *
    refine ⟨fun k v => ∃ q, k + q = 91 ∧ (List.range q).countP P ≤ n ∧ v = (iI ((n : Int) - ((List.range q).countP P : Nat)), nI q, S, true, 0, 0), 91, ⟨0, rfl, Nat.zero_le _, ?_⟩, ?_⟩
    · rw [ex, iI_nI]; simp; rfl
    · rintro k v ⟨q, hk, hcq, rfl⟩
      dsimp only
      have hcl : (List.range q).countP P ≤ q := by
        have := List.countP_le_length (p := P) (l := List.range q)
        rwa [List.length_range] at this
      have hs1 : (List.range (q + 1)).countP P = (List.range q).countP P + (if P q then 1 else 0) := by
        rw [List.range_succ, List.countP_append, List.countP_singleton]
      unfold wX0_move_17_b wX0_move_71 wX0_move_23 wX0_move_46 wX0_move_50 wX0_move_52 wX0_move_58 wX0_move_62 wX0_move_63
      have e91 : ((91 : Int32) ≤ nI q) ↔ 91 ≤ q := by
        rw [iI_nI, show (91 : Int32) = iI 91 from rfl, iI_le]
        omega
      refine ⟨fun h2 => ⟨⟨?_, rfl⟩, rfl⟩, fun h2 => ?_⟩
      · have : q = 91 := by have := e91.mp h2; omega
        subst this
        rw [if_neg (by rw [← List.countP_eq_length_filter]; omega)]
      · have hq : q < 91 := Nat.lt_of_not_le fun z => h2 (e91.mpr z)
        have emv := isMvX_n (k := S.1.2) hq
        rw [hP] at emv
        rw [emv]
        have next : ∀ (dl : Int), dl = (if P q then 1 else 0 : Nat) → (P q = true → (List.range q).countP P < n) → ∃ k', k' < k ∧ ∃ r, k' + r = 91 ∧ (List.range r).countP P ≤ n ∧ ((iI ((n : Int) - ((List.range q).countP P : Nat)) - iI dl, nI q + (1 : Int32), S, true, 0, 0) : Int32 × Int32 × CS × Bool × Nat × Nat) = (iI ((n : Int) - ((List.range r).countP P : Nat)), nI r, S, true, 0, 0) := by
          intro dl hdl hlt2
          refine ⟨k - 1, by omega, q + 1, by omega, ?_, ?_⟩
          · rw [hs1]
            by_cases z : P q = true
            · have := hlt2 z; rw [if_pos z]; omega
            · rw [if_neg z]; omega
          · rw [iI_sub, show nI q + (1 : Int32) = nI (q + 1) from nI_add q 1, hs1, hdl]
            congr 2
            push_cast
            omega
        refine ⟨⟨hS, rfl, rfl⟩, hS.1, hS.1, hS.1, fun h3 => ?_, fun h3 => ?_⟩
        · refine ⟨fun h4 => next 0 (by rw [b2_0.mp h3]; rfl) (fun z => by rw [b2_0.mp h3] at z; cases z), fun h4 => absurd h3 h4⟩
        · have hpq := b2_n0.mp h3
          refine ⟨fun h4 => ⟨fun h5 => absurd h5 h3, fun h5 => next 1 (by rw [hpq]; rfl) (fun _ => ?_)⟩, fun h4 => ⟨⟨?_, rfl⟩, rfl⟩⟩
          · refine Nat.lt_of_le_of_ne hcq fun z => h4 ?_
            rw [z, Int.sub_self]; rfl
          · rw [show (0 : Int32) = iI 0 from rfl, iI_eq] at h4
            have e : n = (List.range q).countP P := by omega
            have h6 := filt_at (p := P) hq hpq
            rw [← e] at h6
            have h7 := (List.getElem?_eq_some_iff.mp h6).1
            rw [if_pos h7, List.getD_eq_getElem?_getD, h6]
            rfl
  · unfold sMove
    rw [decide_eq_false (by intro z; exact h1 (Int32.le_iff_toInt_le.mpr z.1))]
    rfl
theorem vcX0_worth {S : CS}  (hS : cOk S) : wX0_worth_0 (true, pS S, 0, 0) (fun r S' => r = sWorth (rep S) ∧ S' = S)  S false 0 0 := by
  refine ⟨⟨hS, rfl, rfl⟩, ⟨?_, rfl⟩, rfl⟩
  rw [show (100 : Int32) = iI 100 from rfl, iI_add, Int.add_comm]
  rfl
theorem ask_X {k : Gm} {x : Int32} (h : (!overG k && isMvX k x) = true) : ∃ q, q ∈ mvC k ∧ x = nI q ∧ askG k x = some q := by
  rw [Bool.and_eq_true, Bool.not_eq_true'] at h
  have hm : mvG k = mvC k := by unfold mvG; rw [h.1]; rfl
  cases hq : askG k x with
  | none =>
    have := ask_any (g := k) (x := x)
    rw [hq, hm] at this
    have h2 : isMvX k x = false := this.symm
    rw [h2] at h
    cases h.2
  | some q =>
    have := ask_mem hq
    rw [hm] at this
    exact ⟨q, this.1, this.2.symm, rfl⟩
theorem ask_N {k : Gm} {x : Int32} (h : (!overG k && isMvX k x) = false) : askG k x = none := by
  cases hq : askG k x with
  | none => rfl
  | some q =>
    have h1 := ask_mem hq
    have ho : overG k = false := by
      cases z : overG k with
      | false => rfl
      | true =>
        have : mvG k = [] := by unfold mvG; rw [z]; rfl
        rw [this] at h1
        cases h1.1
    have h2 : isMvX k x = true := List.any_eq_true.mpr ⟨q, mvG_mvC h1.1, decide_eq_true h1.2⟩
    rw [ho, h2] at h
    cases h
theorem vcX0_behind {S : CS} (x1 : Int32) (hS : cOk S) : wX0_behind_0 (true, pS S, 0, 0) (fun r S' => r = sBehind x1 (rep S) ∧ S' = S) x1 S false 0 0 := by
  unfold wX0_behind_0 wX0_behind_19 wX0_behind_8 wX0_behind_20
  refine ⟨⟨hS, rfl, rfl⟩, fun h => ⟨⟨?_, rfl⟩, rfl⟩, fun h => ?_⟩
  · unfold sBehind
    rw [show askG (rep S).1 x1 = none from ask_N (b2_0.mp h)]
  · obtain ⟨q, hq, e, ha⟩ := ask_X (b2_n0.mp h)
    refine ⟨⟨hS, rfl, rfl⟩, ⟨q, hq, e⟩, ⟨?_, rfl⟩, rfl⟩
    unfold sBehind
    rw [show askG (rep S).1 x1 = some q from ha]
    dsimp only
    rw [e, nI_clamp (by have := mvC_lt hq; omega), show (100 : Int32) = iI 100 from rfl, iI_add, Int.add_comm]
    rfl
theorem vcX0_best {S : CS}  (hS : cOk S) : wX0_best_0 (true, pS S, 0, 0) (fun r S' => r = sBest (rep S) ∧ S' = S)  S false 0 0 := by
  unfold wX0_best_0 wX0_best_12 wX0_best_7 wX0_best_16
  refine ⟨⟨hS, rfl, rfl⟩, fun h => ⟨⟨hS, rfl, rfl⟩, b2_0.mp h, ⟨?_, rfl⟩, rfl⟩, fun h => ⟨⟨?_, rfl⟩, rfl⟩⟩
  · unfold sBest
    rw [show overG (rep S).1 = false from b2_0.mp h]
    rfl
  · unfold sBest
    rw [show overG (rep S).1 = true from b2_n0.mp h]
    rfl
theorem vcX0_worthOf {S : CS} (x1 : Int32) (x2 : Int32) (x3 : Int32) (hS : cOk S) : wX0_worthOf_0 ((wofB x1 x2 x3), pS S, 0, 0) (fun r S' => r = sWof x1 x2 x3 (rep S) ∧ S' = S) x1 x2 x3 S false 0 0 := by
  unfold wX0_worthOf_0 wX0_worthOf_11 wX0_worthOf_22 wX0_worthOf_31 wX0_worthOf_35 wX0_worthOf_36 wX0_worthOf_43 wX0_worthOf_56 wX0_worthOf_72 wX0_worthOf_74
  have bad : ∀ {mk : Bool}, wofB x1 x2 x3 = false → mk = false → (((0 : Int32) = 0 → ((-2 : Int32) = sWof x1 x2 x3 (rep S) ∧ S = S) ∧ wofB x1 x2 x3 = mk)) := by
    intro mk hb hm _
    refine ⟨⟨?_, rfl⟩, hb.trans hm.symm⟩
    unfold sWof
    unfold wofB at hb
    rw [hb]; rfl
  intro r1 h1
  have e1 : r1 = b2 (in511 x1) := isIn_eq 0 511 rfl rfl h1
  subst e1
  refine ⟨fun h2 => ⟨bad (by unfold wofB; rw [b2_0.mp h2]; rfl) rfl, fun z => absurd rfl z⟩, fun h2 r3 h3 => ?_⟩
  have e3 : r3 = b2 (in511 x2) := isIn_eq 0 511 rfl rfl h3
  subst e3
  refine ⟨fun h4 => ⟨bad (by unfold wofB; rw [b2_0.mp h4, Bool.and_false]; rfl) rfl, fun z => absurd rfl z⟩, fun h4 r5 h5 => ?_⟩
  have e5 : r5 = b2 (in01 x3) := isIn_eq 0 1 rfl rfl h5
  subst e5
  refine ⟨fun h6 => ⟨bad (by unfold wofB; rw [b2_0.mp h6, Bool.and_false]) rfl, fun z => absurd rfl z⟩, fun h6 => ⟨fun z => absurd z (by decide), fun _ => ?_⟩⟩
  have i1 := b2_n0.mp h2
  have i2 := b2_n0.mp h4
  have i3 := b2_n0.mp h6
  have hb : wofB x1 x2 x3 = true := by unfold wofB; rw [i1, i2, i3]; rfl
  obtain ⟨a, ha, ea, fa⟩ := in511_of i1
  obtain ⟨b, hb2, eb, fb⟩ := in511_of i2
  obtain ⟨m, hm, em, fm⟩ := in01_of i3
  have hs : sWof x1 x2 x3 (rep S) = if decide (a &&& b = 0) && legal S.1.2.1 a b m then iI (wrb S.1.2.1 S.1.2.2.1 (a, b, m) + 100) else -2 := by
    unfold sWof
    rw [i1, i2, i3, fa, fb, fm]
    rfl
  rw [hs]
  refine ⟨⟨hS, hb, rfl⟩, a, b, m, ⟨hS.1, ha, hb2, hm, ea, eb, em⟩, fun h7 => ⟨⟨?_, rfl⟩, hb⟩, fun h7 => ?_⟩
  · rw [b2_0.mp h7]; rfl
  · have h8 := b2_n0.mp h7
    have h9 := h8
    rw [Bool.and_eq_true, decide_eq_true_eq] at h9
    refine ⟨⟨hS, hb, rfl⟩, (a, b, m), ⟨hS.1, LB_mem.mpr ⟨⟨ha, hb2, h9.1, hm⟩, h9.2⟩, ea, eb, em⟩, ⟨?_, rfl⟩, hb⟩
    rw [h8, show (100 : Int32) = iI 100 from rfl, iI_add, Int.add_comm]
    rfl
