/-! VC of MorrisTables, C -/
theorem LB_le {d k : Nat} (h : k ≤ (LB d).length) : (nI (LB d).length ≤ nI k) ↔ (LB d).length ≤ k := by
  have := LB_len d
  rw [iI_nI, iI_nI, iI_le]
  omega
theorem step0 {x1 : Int32} {c k : Nat} {S : CS} : ((x1, nI c + (0 : Int32), nI k + (1 : Int32), S, true, 0, 0) : Int32 × Int32 × Int32 × CS × Bool × Nat × Nat) = (x1, nI (c + 0), nI (k + 1), S, true, 0, 0) := by
  rw [show nI k + (1 : Int32) = nI (k + 1) from nI_add k 1, show nI c + (0 : Int32) = nI (c + 0) from nI_add c 0]
theorem step1 {x1 : Int32} {c k : Nat} {S : CS} : ((x1, nI c + (1 : Int32), nI k + (1 : Int32), S, true, 0, 0) : Int32 × Int32 × Int32 × CS × Bool × Nat × Nat) = (x1, nI (c + 1), nI (k + 1), S, true, 0, 0) := by
  rw [show nI k + (1 : Int32) = nI (k + 1) from nI_add k 1, show nI c + (1 : Int32) = nI (c + 1) from nI_add c 1]
theorem vcX0_with {S : CS} (x1 : Int32) (hS : cOk S) : wX0_with_0 (true, pS S, 0, 0) (fun r S' => r = withX S.1.2.1 S.1.2.2.1 x1 ∧ S' = S) x1 S false 0 0 := by
  unfold wX0_with_0 wX0_with_4
  refine wloop_up (LB S.1.2.1).length (fun k v => k ≤ (LB S.1.2.1).length ∧ ∃ mk, v = (x1, nI (((LB S.1.2.1).take k).countP (fun b => decide (sgI (wrb S.1.2.1 S.1.2.2.1 b) = x1))), nI k, S, mk, 0, 0)) 0 ⟨Nat.zero_le _, false, rfl⟩ ?_
  rintro k v L ⟨hk, mk, rfl⟩ hL
  dsimp only
  unfold wX0_with_4_b wX0_with_44 wX0_with_15 wX0_with_31 wX0_with_35 wX0_with_36
  refine ⟨⟨hS, rfl, rfl⟩, hS.1, fun h => ⟨⟨?_, rfl⟩, rfl⟩, fun h => ?_⟩
  · have e : k = (LB S.1.2.1).length := Nat.le_antisymm hk ((LB_le hk).mp h)
    rw [e, List.take_length]
    rfl
  · have hlt : k < (LB S.1.2.1).length := Nat.lt_of_not_le fun z => h ((LB_le hk).mpr z)
    obtain ⟨b, hb⟩ : ∃ b, (LB S.1.2.1)[k]? = some b := ⟨_, List.getElem?_eq_getElem hlt⟩
    have hw := LB_rng hS.1.1.1 hS.1.1.2.1 (List.mem_of_getElem? hb)
    have tk := take_cnt (fun b => decide (sgI (wrb S.1.2.1 S.1.2.2.1 b) = x1)) hb
    refine ⟨⟨hS, rfl, rfl⟩, k, b, ⟨hS.1, hb, rfl⟩, fun r hr => ?_⟩
    have er : r = sgI (wrb S.1.2.1 S.1.2.2.1 b) := hr _ (by omega) (by omega) rfl
    subst er
    refine ⟨fun h2 => hL _ hlt ⟨hlt, true, ?_⟩, fun h2 => hL _ hlt ⟨hlt, true, ?_⟩⟩
    · rw [tk, if_neg (by rw [decide_eq_true_eq]; exact h2)]
      exact step0
    · rw [tk, if_pos (decide_eq_true h2)]
      exact step1
theorem iI_max {a b : Int} (h1 : -11 ≤ a) (h2 : a ≤ 10) (h3 : -11 ≤ b) (h4 : b ≤ 10) : (if iI a < iI b then iI b else iI a) = iI (max a b) := by
  by_cases z : a < b
  · rw [if_pos ((iI_lt).mpr z), show max a b = b by omega]
  · rw [if_neg (fun w => z ((iI_lt).mp w)), show max a b = a by omega]
theorem vcX0_longest {S : CS} (x1 : Int32) (hS : cOk S) : wX0_longest_0 (true, pS S, 0, 0) (fun r S' => r = lonX S.1.2.1 S.1.2.2.1 x1 ∧ S' = S) x1 S false 0 0 := by
  unfold wX0_longest_0 wX0_longest_4
  refine wloop_up (LB S.1.2.1).length (fun k v => k ≤ (LB S.1.2.1).length ∧ ∃ mk, v = (x1, iI (lonL S.1.2.1 S.1.2.2.1 (lonF x1) ((LB S.1.2.1).take k)), nI k, S, mk, 0, 0)) 0 ⟨Nat.zero_le _, false, rfl⟩ ?_
  rintro k v L ⟨hk, mk, rfl⟩ hL
  dsimp only
  unfold wX0_longest_4_b wX0_longest_49 wX0_longest_15 wX0_longest_30 wX0_longest_35 wX0_longest_39
  refine ⟨⟨hS, rfl, rfl⟩, hS.1, fun h => ⟨⟨?_, rfl⟩, rfl⟩, fun h => ?_⟩
  · have e : k = (LB S.1.2.1).length := Nat.le_antisymm hk ((LB_le hk).mp h)
    rw [e, List.take_length]
    rfl
  · have hlt : k < (LB S.1.2.1).length := Nat.lt_of_not_le fun z => h ((LB_le hk).mpr z)
    obtain ⟨b, hb⟩ : ∃ b, (LB S.1.2.1)[k]? = some b := ⟨_, List.getElem?_eq_getElem hlt⟩
    have hw := LB_rng hS.1.1.1 hS.1.1.2.1 (List.mem_of_getElem? hb)
    have hF := lonF_le (x := x1) hw.1 hw.2
    have hr1 : 0 ≤ lonL S.1.2.1 S.1.2.2.1 (lonF x1) ((LB S.1.2.1).take k) ∧ lonL S.1.2.1 S.1.2.2.1 (lonF x1) ((LB S.1.2.1).take k) ≤ 10 := lonL_rng _ 0 (fun c hc => (lonF_le (LB_rng hS.1.1.1 hS.1.1.2.1 (List.mem_of_mem_take hc)).1 (LB_rng hS.1.1.1 hS.1.1.2.1 (List.mem_of_mem_take hc)).2).2) (by omega) (by omega)
    have tk := take_lon (d := S.1.2.1) (l := S.1.2.2.1) (F := lonF x1) hb
    have next : ∀ y r, y = iI (lonF x1 (wrb S.1.2.1 S.1.2.2.1 b)) → qJ4_max (iI (lonL S.1.2.1 S.1.2.2.1 (lonF x1) ((LB S.1.2.1).take k))) y r → L (x1, r, nI k + 1, S, true, 0, 0) := by
      intro y r hy hr
      refine hL _ hlt ⟨hlt, true, ?_⟩
      have hr : r = if iI (lonL S.1.2.1 S.1.2.2.1 (lonF x1) ((LB S.1.2.1).take k)) < y then y else iI (lonL S.1.2.1 S.1.2.2.1 (lonF x1) ((LB S.1.2.1).take k)) := hr
      rw [hr, hy, tk, iI_max (by omega) (by omega) hF.1 (by omega), show nI k + (1 : Int32) = nI (k + 1) from nI_add k 1]
    refine ⟨⟨hS, rfl, rfl⟩, k, b, ⟨hS.1, hb, rfl⟩, fun h2 r hr => next _ r ?_ hr, fun h2 r hr => next _ r ?_ hr⟩
    · unfold lonF
      rw [if_pos h2, show (-1 : Int32) = iI (-1) from rfl, iI_sub]
    · unfold lonF
      rw [if_neg h2]
theorem vcX0_tally {S : CS} (x1 : Int32) (hS : cOk S) : wX0_tally_0 ((talB x1), pS S, 0, 0) (fun r S' => r = sTally x1 (rep S) ∧ S' = S) x1 S false 0 0 := by
  unfold wX0_tally_0
  refine ⟨?_, ?_, ?_, ?_, ?_, ?_, ?_⟩
  · intro h; subst h; exact ⟨⟨hS, rfl, rfl⟩, hS.1, ⟨(tal0_LB _ _).symm, rfl⟩, rfl⟩
  · intro h; subst h; exact ⟨⟨hS, rfl, rfl⟩, ⟨(tal1_LB _ _).symm, rfl⟩, rfl⟩
  · intro h; subst h; exact ⟨⟨hS, rfl, rfl⟩, ⟨(tal2_LB _ _).symm, rfl⟩, rfl⟩
  · intro h; subst h; exact ⟨⟨hS, rfl, rfl⟩, ⟨(tal3_LB _ _).symm, rfl⟩, rfl⟩
  · intro h; subst h; exact ⟨fun z => absurd rfl z, fun _ => ⟨⟨hS, rfl, rfl⟩, ⟨(tal4_LB _ _).symm, rfl⟩, rfl⟩⟩
  · intro h; subst h; exact ⟨fun _ => ⟨⟨hS, rfl, rfl⟩, ⟨(tal5_LB _ _).symm, rfl⟩, rfl⟩, fun z => absurd z (by decide)⟩
  · intro h0 h1 h2 h3 h4 h5
    refine ⟨⟨?_, rfl⟩, ?_⟩
    · unfold sTally talG
      rw [if_neg h0, if_neg h1, if_neg h2, if_neg h3, if_neg h4, if_neg h5]
    · show talB x1 = false
      unfold talB
      exact decide_eq_false (fun z => by rcases z with z | z | z | z | z | z <;> contradiction)
theorem vcX0_share {S : CS}  (hS : cOk S) : wX0_share_0 (true, pS S, 0, 0) (fun r S' => r = sShare (rep S) ∧ S' = S)  S false 0 0 := by
  unfold wX0_share_0
  rw [← tal0_LB S.1.2.1 S.1.2.2.1, ← tal1_LB S.1.2.1 S.1.2.2.1]
  exact ⟨⟨hS, rfl, rfl⟩, ⟨hS, rfl, rfl⟩, hS.1, share_fin hS.1.1.1, fun r hr => ⟨⟨hr, rfl⟩, rfl⟩⟩
theorem vcX0_many {S : CS} (x1 : Int32) (hS : cOk S) : wX0_many_0 ((manB x1), pS S, 0, 0) (fun r S' => r = sMany x1 (rep S) ∧ S' = S) x1 S false 0 0 := by
  intro r1 h1
  have e1 : r1 = b2 (manB x1) := isIn_eq 0 200 rfl rfl h1
  subst e1
  unfold wX0_many_14 wX0_many_11
  refine ⟨fun h2 => ?_, fun h2 => ⟨⟨?_, rfl⟩, b2_0.mp h2⟩⟩
  · have hm := b2_n0.mp h2
    have hx := of_decide_eq_true hm
    have ex : x1 - (100 : Int32) = iI (x1.toInt - 100) := by
      conv => lhs; rw [show x1 = iI x1.toInt from (Int32.ofInt_toInt x1).symm, show (100 : Int32) = iI 100 from rfl, iI_sub]
    have hs : sMany x1 (rep S) = nI ((LB S.1.2.1).countP (fun b => decide (wrb S.1.2.1 S.1.2.2.1 b = x1.toInt - 100))) := by
      unfold sMany
      unfold manB at hm
      rw [hm, if_pos rfl, tal_LB]
      rfl
    rw [hs]
    unfold wX0_many_18
    refine wloop_up (LB S.1.2.1).length (fun k v => k ≤ (LB S.1.2.1).length ∧ ∃ mk, v = (x1, nI (((LB S.1.2.1).take k).countP (fun b => decide (wrb S.1.2.1 S.1.2.2.1 b = x1.toInt - 100))), nI k, S, mk, 0, 0)) 0 ⟨Nat.zero_le _, false, rfl⟩ ?_
    rintro k v L ⟨hk, mk, rfl⟩ hL
    dsimp only
    unfold wX0_many_18_b wX0_many_58 wX0_many_29 wX0_many_45 wX0_many_49 wX0_many_50
    refine ⟨⟨hS, hm, rfl⟩, hS.1, fun h => ⟨⟨?_, rfl⟩, hm⟩, fun h => ?_⟩
    · have e : k = (LB S.1.2.1).length := Nat.le_antisymm hk ((LB_le hk).mp h)
      rw [e, List.take_length]
    · have hlt : k < (LB S.1.2.1).length := Nat.lt_of_not_le fun z => h ((LB_le hk).mpr z)
      obtain ⟨b, hb⟩ : ∃ b, (LB S.1.2.1)[k]? = some b := ⟨_, List.getElem?_eq_getElem hlt⟩
      have hw := LB_rng hS.1.1.1 hS.1.1.2.1 (List.mem_of_getElem? hb)
      have tk := take_cnt (fun b => decide (wrb S.1.2.1 S.1.2.2.1 b = x1.toInt - 100)) hb
      rw [ex]
      refine ⟨⟨hS, hm, rfl⟩, k, b, ⟨hS.1, hb, rfl⟩, fun h3 => hL _ hlt ⟨hlt, true, ?_⟩, fun h3 => hL _ hlt ⟨hlt, true, ?_⟩⟩
      · rw [tk, if_neg (by rw [decide_eq_true_eq]; exact fun z => h3 (by rw [z]))]
        exact step0
      · rw [tk, if_pos (decide_eq_true ((iI_eq).mp h3))]
        exact step1
  · have hm := b2_0.mp h2
    unfold sMany
    unfold manB at hm
    rw [hm]; rfl
