/-! isMove, isLegal -/
theorem lk_sl {d me ot q : Nat} (h : isLk d me ot = true) : isSl d me ot q = false := by
  rw [← Bool.not_eq_true]
  intro hs
  unfold isLk at h
  rw [Bool.not_eq_true', List.any_eq_false] at h
  exact h q (List.mem_range.mpr (isSl_lt hs).2) hs
theorem mv_lost {d l me ot q : Nat} (hc : cnt me ≤ 3) (h : loN d l me ot = true) : isMv d l me ot q = false := by
  unfold loN at h
  unfold isMv
  rcases Bool.or_eq_true_iff.mp h with h | h
  · rw [h]; rfl
  · unfold lkN at h
    simp only [Bool.and_eq_true, decide_eq_true_eq] at h
    obtain ⟨h1, h2, h3⟩ := h
    rw [if_neg (by omega), lk_sl h3, h1]
    simp
theorem mv_90 {d l me ot : Nat} (hl : l < 2) (hc : cnt me ≤ 3) (h : loN d l me ot = false) : isMv d l me ot 90 = lkN d me ot := by
  unfold loN at h
  rw [Bool.or_eq_false_iff] at h
  obtain ⟨h1, h2⟩ := h
  unfold isMv lkN at *
  rw [h1]
  by_cases h3 : cnt me < 3
  · rw [if_pos h3, decide_eq_false (show ¬ cnt me = 3 by omega)]
    simp
  · rw [if_neg h3, decide_eq_true (show cnt me = 3 by omega)]
    have hs : isSl d me ot 90 = false := by
      unfold isSl
      simp
    rw [hs]
    rw [decide_eq_true (show cnt me = 3 by omega), Bool.true_and] at h2
    cases hk : isLk d me ot with
    | false => simp
    | true =>
      rw [hk, Bool.and_true, decide_eq_false_iff_not] at h2
      rw [show l = 1 by omega]
      rfl
theorem mv_pl {d l me ot q : Nat} (hc : cnt me ≤ 3) (hq : q < 90) (h : loN d l me ot = false) : isMv d l me ot q = plN d me ot q := by
  unfold loN at h
  rw [Bool.or_eq_false_iff] at h
  unfold isMv plN
  rw [h.1]
  have hn : (q == 90) = false := by rw [beq_eq_false_iff_ne]; omega
  by_cases h3 : cnt me < 3
  · rw [if_pos h3]
    by_cases h9 : q < 9
    · rw [if_pos h9, decide_eq_true h3, decide_eq_true h9]; rfl
    · rw [if_neg h9, decide_eq_false (show ¬ cnt me = 3 by omega), decide_eq_false h9]; rfl
  · rw [if_neg h3, hn]
    by_cases h9 : q < 9
    · rw [if_pos h9, decide_eq_false h3]
      have : isSl d me ot q = false := by
        unfold isSl
        rw [decide_eq_false (show ¬ 9 ≤ q by omega)]; rfl
      rw [this]; rfl
    · rw [if_neg h9, decide_eq_true (show cnt me = 3 by omega)]
      simp
theorem vcX4_isMove (x1 x2 x3 : Int32) (st : MS) (hp : pX4_isMove x1 x2 x3 st) : wX4_isMove_0 (fun (r : Int32) (u : MS) => qX4_isMove x1 x2 x3 st r ∧ st = u) x1 x2 x3 st := by
  obtain ⟨d, l, hr, me, ot, hm, ho, rfl, rfl⟩ := hp
  have fin : ∀ b : Bool, (cnt me ≤ 3 → (∀ q, q < 91 → x3 = nI q → b = isMv d l me ot q) ∧ (¬ ((0 : Int32) ≤ x3 ∧ x3 ≤ 90) → b = false)) → isB (b2 b) ∧ qX4_isMove (nI me) (nI ot) x3 st (b2 b) ∧ st = st := by
    intro b h
    refine ⟨isB_b2 b, ?_, rfl⟩
    intro d' l' me' ot' hr' hm' ho' hc e1 e2
    obtain ⟨rfl, rfl⟩ := rOK_inj hr hr'
    have := nI5 hm hm' e1
    subst this
    have := nI5 ho ho' e2
    subst this
    exact ⟨fun q hq e => by rw [(h hc).1 q hq e], fun hn => by rw [(h hc).2 hn]; rfl⟩
  refine ⟨⟨d, l, hr, me, ot, hm, ho, rfl, rfl⟩, fun r1 h1 => ?_⟩
  have h1 := h1 d l me ot hr hm ho rfl rfl
  subst h1
  refine ⟨fun h => fin false fun hc => ⟨fun q _ _ => (mv_lost hc (b2_n0.mp h)).symm, fun _ => rfl⟩, fun h => ?_⟩
  have hlo := b2_0.mp h
  intro r2 h2
  have h2 : r2 = b2 _ := h2
  subst h2
  refine ⟨fun h3 => ?_, fun h3 => ?_⟩
  · have hin := of_decide_eq_true (b2_n0.mp h3)
    obtain ⟨q, hq, rfl⟩ := nI_of2 (M := 90) (n := 90) (by decide) (Int32.not_lt.mpr hin.1) hin.2
    have hq' : q < 91 := by omega
    obtain ⟨g1, -⟩ := ap_cl q hq'
    refine ⟨fun h4 => ?_, fun h4 => ?_⟩
    · have hne : ¬ q = 90 := fun z => h4 (g1.mpr z)
      refine ⟨⟨d, l, hr, me, ot, q, hm, ho, hq', rfl, rfl, rfl⟩, fun r3 h5 => ?_⟩
      have h6 := h5.2 d l me ot q hr hm ho hq' rfl rfl rfl
      subst h6
      refine fin _ fun hc => ⟨fun q' hq2 e => ?_, fun hn => absurd hin hn⟩
      have := nI_inj e
      subst this
      exact (mv_pl hc (by omega) hlo).symm
    · have he : q = 90 := g1.mp h4
      subst he
      refine ⟨⟨d, l, hr, me, ot, hm, ho, rfl, rfl⟩, fun r3 h5 => ?_⟩
      have h6 := h5 d l me ot hr hm ho rfl rfl
      subst h6
      refine fin _ fun hc => ⟨fun q' hq2 e => ?_, fun hn => absurd hin hn⟩
      have := nI_inj e
      subst this
      exact (mv_90 hr.2.1 hc hlo).symm
  · have hout := of_decide_eq_false (b2_0.mp h3)
    refine fin false fun hc => ⟨fun q hq e => ?_, fun _ => rfl⟩
    subst e
    exact absurd ⟨(nI_leI (show 0 < 2147483648 by decide) (by omega)).mpr (Nat.zero_le q), (nI_leI (by omega) (show 90 < 2147483648 by decide)).mpr (by omega)⟩ hout
theorem vcX4_isLegal (x1 x2 x3 : Int32) (st : MS) (hp : pX4_isLegal x1 x2 x3 st) : wX4_isLegal_0 (fun (r : Int32) (u : MS) => qX4_isLegal x1 x2 x3 st r ∧ st = u) x1 x2 x3 st := by
  obtain ⟨d, l, hr, f, s, mv, hf, hs, hmv, rfl, rfl, rfl⟩ := hp
  have fin : ∀ b : Bool, b = (decide (f &&& s = 0) && legal d f s mv) → isB (b2 b) ∧ qX4_isLegal (nI f) (nI s) (nI mv) st (b2 b) ∧ st = st := by
    intro b h
    refine ⟨isB_b2 b, ?_, rfl⟩
    intro d' l' f' s' mv' hr' hf' hs' hmv' e1 e2 e3
    obtain ⟨rfl, rfl⟩ := rOK_inj hr hr'
    have := nI5 hf hf' e1
    subst this
    have := nI5 hs hs' e2
    subst this
    have := nI_inj e3
    subst this
    rw [h]
  have c1 := cnt_le f
  have c2 := cnt_le s
  -- the board behind the counts
  have hgo : ((cnt f = cnt s ∧ cnt f < 3 ∧ mv = 0) ∨ (cnt f = cnt s + 1 ∧ cnt f ≤ 3 ∧ mv = 1) ∨ (cnt f = 3 ∧ cnt s = 3)) → wX4_isLegal_61 (fun (r : Int32) (u : MS) => qX4_isLegal (nI f) (nI s) (nI mv) st r ∧ st = u) (nI f) (nI s) (nI mv) st := by
    intro hcn
    have hleg : legal d f s mv = !hasL d (sid f s mv) := by
      unfold legal
      rcases hcn with h | h | h
      · rw [decide_eq_true h]; simp
      · rw [decide_eq_true (show cnt f = cnt s + 1 ∧ cnt f ≤ 3 ∧ mv = 1 from h)]; simp
      · rw [decide_eq_true (show cnt f = 3 ∧ cnt s = 3 from h)]; simp
    refine ⟨fun z => absurd z (by decide), fun _ => ⟨fun h2 => fin false ?_, fun h2 => ?_⟩⟩
    · have : ¬ f &&& s = 0 := fun z => h2 (by rw [nI_and5 (by omega) (by omega), z]; rfl)
      rw [decide_eq_false this]; rfl
    · have h0 : f &&& s = 0 := nI_inj (show nI (f &&& s) = nI 0 by rw [← nI_and5 (by omega) (by omega)]; exact h2) (Nat.lt_of_le_of_lt Nat.and_le_left (by omega)) (by omega)
      have hfinish : ∀ mm, mm < 512 → sid f s mv = mm → wX4_isLegal_89 (fun (r : Int32) (u : MS) => qX4_isLegal (nI f) (nI s) (nI mv) st r ∧ st = u) (nI mm) st := by
        intro mm hmm e
        refine ⟨⟨d, l, hr, mm, hmm, rfl⟩, fun r3 h3 => ?_⟩
        have h3 := h3 d l mm hr hmm rfl
        subst h3
        refine ⟨fun h4 => fin false ?_, fun h4 => fin true ?_⟩
        · rw [hleg, e, b2_n0.mp h4]; simp
        · rw [hleg, e, b2_0.mp h4, decide_eq_true h0]; rfl
      refine ⟨fun h3 => ?_, fun h3 => ?_⟩
      · have : ¬ mv = 0 := fun z => h3 (by rw [z]; rfl)
        exact hfinish s hs (if_neg this)
      · have : mv = 0 := nI_inj (show nI mv = nI 0 from h3)
        exact hfinish f hf (if_pos this)
  have hstop : ¬ ((cnt f = cnt s ∧ cnt f < 3 ∧ mv = 0) ∨ (cnt f = cnt s + 1 ∧ cnt f ≤ 3 ∧ mv = 1) ∨ (cnt f = 3 ∧ cnt s = 3)) → wX4_isLegal_65 (fun (r : Int32) (u : MS) => qX4_isLegal (nI f) (nI s) (nI mv) st r ∧ st = u) (nI f) (nI s) (nI mv) st := by
    intro hcn
    refine ⟨fun _ => fin false ?_, fun z => absurd rfl z⟩
    unfold legal
    rw [decide_eq_false (fun z => hcn (Or.inl z)), decide_eq_false (fun z => hcn (Or.inr (Or.inl z))), decide_eq_false (fun z => hcn (Or.inr (Or.inr z)))]
    simp
  intro r1 h1 r2 h2
  have h1 := h1 f hf rfl
  have h2 := h2 s hs rfl
  subst h1
  subst h2
  have t3 : ∀ n : Nat, n < 2147483648 → (nI n = (3 : Int32) ↔ n = 3) := fun n hn => ⟨fun z => nI_inj (show nI n = nI 3 from z) hn (by omega), fun z => by rw [z]; rfl⟩
  have h49 : ¬ (cnt f = cnt s ∧ cnt f < 3 ∧ mv = 0) → ¬ (cnt f = cnt s + 1 ∧ cnt f ≤ 3 ∧ mv = 1) → wX4_isLegal_49 (fun (r : Int32) (u : MS) => qX4_isLegal (nI f) (nI s) (nI mv) st r ∧ st = u) (nI f) (nI s) (nI mv) (nI (cnt f)) (nI (cnt s)) st := by
    intro n1 n2
    refine ⟨fun h => hstop ?_, fun h => ⟨fun h3 => hstop ?_, fun h3 => hgo (Or.inr (Or.inr ⟨(t3 _ (by omega)).mp h, (t3 _ (by omega)).mp h3⟩))⟩⟩
    · rintro (z | z | z)
      · exact n1 z
      · exact n2 z
      · exact h ((t3 _ (by omega)).mpr z.1)
    · rintro (z | z | z)
      · exact n1 z
      · exact n2 z
      · exact h3 ((t3 _ (by omega)).mpr z.2)
  have h29 : ¬ (cnt f = cnt s ∧ cnt f < 3 ∧ mv = 0) → wX4_isLegal_29 (fun (r : Int32) (u : MS) => qX4_isLegal (nI f) (nI s) (nI mv) st r ∧ st = u) (nI f) (nI s) (nI mv) (nI (cnt f)) (nI (cnt s)) st := by
    intro n1
    unfold wX4_isLegal_29
    rw [nI_up]
    refine ⟨fun h => h49 n1 ?_, fun h => ?_⟩
    · rintro ⟨z, -⟩
      exact h (by rw [z])
    · have he := nI_inj h (by omega) (by omega)
      refine ⟨fun h3 => h49 n1 ?_, fun h3 => ⟨fun h4 => ?_, fun h4 => h49 n1 ?_⟩⟩
      · have := nl_of (show nI 3 < nI (cnt f) from h3) (by omega) (by omega)
        rintro ⟨-, z, -⟩
        omega
      · have h5 := nge_of (show ¬ nI 3 < nI (cnt f) from h3) (by omega) (by omega)
        have h6 : mv = 1 := nI_inj (show nI mv = nI 1 from h4)
        exact hgo (Or.inr (Or.inl ⟨he, h5, h6⟩))
      · rintro ⟨-, -, z⟩
        exact h4 (by rw [z]; rfl)
  refine ⟨fun h => h29 ?_, fun h => ⟨fun h3 => h29 ?_, fun h3 => ⟨fun h4 => ?_, fun h4 => h29 ?_⟩⟩⟩
  · rintro ⟨z, -⟩
    exact h (by rw [z])
  · have := nle_of (show nI 3 ≤ nI (cnt f) from h3) (by omega) (by omega)
    rintro ⟨-, z, -⟩
    omega
  · have h5 := nlt_of (show ¬ nI 3 ≤ nI (cnt f) from h3) (by omega) (by omega)
    exact hgo (Or.inl ⟨nI_inj h (by omega) (by omega), h5, nI_inj (show nI mv = nI 0 from h4)⟩)
  · rintro ⟨-, -, z⟩
    exact h4 (by rw [z]; rfl)
