/-! judge: what is said of a board by those behind its moves -/
theorem mxI_0 {a : Int32} (h : 0 ≤ a) : mxI a 0 = a := by
  unfold mxI
  rw [if_neg (Int32.not_lt.mpr h)]
theorem mxI_le0 {a b : Int32} (h : 0 ≤ a) : 0 ≤ mxI a b := by
  unfold mxI
  split
  · rename_i h2
    rw [Int32.le_iff_toInt_le] at h ⊢
    rw [Int32.lt_iff_toInt_lt] at h2
    omega
  · exact h
theorem mxI_assoc (a b c : Int32) : mxI (mxI a b) c = mxI a (mxI b c) := by
  unfold mxI
  by_cases h1 : a < b <;> by_cases h2 : b < c <;> by_cases h3 : a < c <;> simp only [h1, h2, h3, if_true, if_false] <;> (rw [Int32.lt_iff_toInt_lt] at h1 h2 h3) <;> omega
theorem fold_mx : ∀ (us : List Int32) (a : Int32), 0 ≤ a → us.foldl mxI a = mxI a (us.foldl mxI 0)
  | [], a, h => (mxI_0 h).symm
  | y :: us, a, h => by
    show us.foldl mxI (mxI a y) = mxI a (us.foldl mxI (mxI 0 y))
    rw [fold_mx us (mxI a y) (mxI_le0 h), fold_mx us (mxI 0 y) (mxI_le0 (by decide)), ← mxI_assoc, ← mxI_assoc, mxI_0 h]
theorem mxL_0 (us : List Int32) : 0 ≤ mxL us := by
  unfold mxL
  have : ∀ (us : List Int32) (a : Int32), 0 ≤ a → 0 ≤ us.foldl mxI a := by
    intro us
    induction us with
    | nil => exact fun a h => h
    | cons y us ih => exact fun a h => ih _ (mxI_le0 h)
  exact this us 0 (by decide)
theorem mxL_app (us vs : List Int32) : mxL (us ++ vs) = mxI (mxL us) (mxL vs) := by
  unfold mxL
  rw [List.foldl_append]
  exact fold_mx vs _ (mxL_0 us)
theorem mxL_one (u n : Int32) : mxL [rkI u n] = rkI u n := by
  show mxI 0 (rkI u n) = _
  unfold rkI
  split
  · rfl
  · split <;> rfl
/-- the slides, man by man -/
def sls (d : Nat) (b : Bd) (k : Nat) : List Nat := (List.range k).flatMap fun p => if (meB b).testBit p then gmv d b (some p) else []
theorem sls_s (d : Nat) (b : Bd) (k : Nat) : sls d b (k + 1) = sls d b k ++ (if (meB b).testBit k then gmv d b (some k) else []) := by
  unfold sls
  rw [List.range_succ, List.flatMap_append]; simp
theorem gmv_some {d p q : Nat} {b : Bd} : q ∈ gmv d b (some p) ↔ ∃ t, t < 9 ∧ fre (meB b) (otB b) t = true ∧ isNb d p t = true ∧ q = 9 + 9 * p + t := by
  unfold gmv
  simp only [List.mem_map, List.mem_filter, List.mem_range, Bool.and_eq_true]
  constructor
  · rintro ⟨t, ⟨h1, h2, h3⟩, rfl⟩
    exact ⟨t, h1, h2, h3, rfl⟩
  · rintro ⟨t, h1, h2, h3, rfl⟩
    exact ⟨t, ⟨h1, h2, h3⟩, rfl⟩
theorem sls_mem {d q : Nat} {b : Bd} : q ∈ sls d b 9 ↔ isSl d (meB b) (otB b) q = true := by
  unfold sls isSl
  simp only [List.mem_flatMap, List.mem_range, Bool.and_eq_true, decide_eq_true_eq]
  constructor
  · rintro ⟨p, hp, hq⟩
    split at hq
    · rename_i hb
      obtain ⟨t, h1, h2, h3, rfl⟩ := gmv_some.mp hq
      have e1 : (9 + 9 * p + t - 9) / 9 = p := by omega
      have e2 : (9 + 9 * p + t - 9) % 9 = t := by omega
      rw [e1, e2]
      exact ⟨⟨⟨⟨by omega, by omega⟩, hb⟩, h2⟩, h3⟩
    · cases hq
  · rintro ⟨⟨⟨⟨h1, h2⟩, h3⟩, h4⟩, h5⟩
    refine ⟨(q - 9) / 9, by omega, ?_⟩
    rw [if_pos h3]
    exact gmv_some.mpr ⟨(q - 9) % 9, by omega, h4, h5, by omega⟩
theorem sls_sorted (d : Nat) (b : Bd) : (sls d b 9).Pairwise (· < ·) := by
  unfold sls
  rw [List.pairwise_flatMap]
  constructor
  · intro p _
    split
    · unfold gmv
      rw [List.pairwise_map]
      refine (List.pairwise_lt_range.filter _).imp ?_
      intro a b h
      omega
    · exact List.Pairwise.nil
  · refine List.pairwise_lt_range.imp ?_
    intro p p' h x hx y hy
    split at hx
    · split at hy
      · obtain ⟨t, h1, -, -, rfl⟩ := gmv_some.mp hx
        obtain ⟨t', h1', -, -, rfl⟩ := gmv_some.mp hy
        omega
      · cases hy
    · cases hx
theorem lo_line {d l me ot : Nat} (h : loN d l me ot = false) : hasL d ot = false := by
  unfold loN at h
  rw [Bool.or_eq_false_iff] at h
  exact h.1
theorem mvl_pl {d l : Nat} {b : Bd} (hc : cnt (meB b) < 3) (h : loN d l (meB b) (otB b) = false) : mvl d l b = gmv d b none := by
  refine sorted_ext (List.pairwise_lt_range.filter _) (List.pairwise_lt_range.filter _) (fun q => ?_)
  rw [mem_mvl]
  unfold isMv
  have hg : q ∈ gmv d b none ↔ q < 9 ∧ fre (meB b) (otB b) q = true := by
    show q ∈ (List.range 9).filter (fun t => fre (meB b) (otB b) t) ↔ _
    rw [List.mem_filter, List.mem_range]
  rw [lo_line h, if_pos hc, hg]
  simp only [Bool.not_false, Bool.true_and, Bool.and_eq_true, decide_eq_true_eq]
  constructor
  · exact fun z => z.2
  · exact fun z => ⟨by omega, z⟩
theorem mvl_lk {d l : Nat} {b : Bd} (hl : l < 2) (hc : cnt (meB b) ≤ 3) (h : loN d l (meB b) (otB b) = false) (hk : lkN d (meB b) (otB b) = true) : mvl d l b = [90] := by
  refine sorted_ext (List.pairwise_lt_range.filter _) (List.pairwise_singleton _ _) (fun q => ?_)
  rw [mem_mvl, List.mem_singleton]
  have h90 := mv_90 hl hc h
  rw [hk] at h90
  unfold lkN at hk
  rw [Bool.and_eq_true, decide_eq_true_eq] at hk
  constructor
  · rintro ⟨h1, h2⟩
    unfold isMv at h2
    rw [if_neg (by omega), lk_sl hk.2] at h2
    simp only [Bool.false_or, Bool.and_eq_true, beq_iff_eq] at h2
    exact h2.2.1.1
  · rintro rfl
    exact ⟨by decide, h90⟩
theorem mvl_sl {d l : Nat} {b : Bd} (hc : ¬ cnt (meB b) < 3) (hc3 : cnt (meB b) ≤ 3) (h : loN d l (meB b) (otB b) = false) (hk : lkN d (meB b) (otB b) = false) : mvl d l b = sls d b 9 := by
  refine sorted_ext (List.pairwise_lt_range.filter _) (sls_sorted d b) (fun q => ?_)
  rw [mem_mvl, sls_mem]
  unfold lkN at hk
  rw [decide_eq_true (show cnt (meB b) = 3 by omega), Bool.true_and] at hk
  unfold isMv
  rw [lo_line h, if_neg hc, hk]
  simp only [Bool.not_false, Bool.true_and, Bool.and_false, Bool.or_false]
  constructor
  · exact fun z => z.2
  · intro z
    have := isSl_lt z
    exact ⟨by omega, z⟩
def jP9 (st : MS) (d : Nat) (b : Bd) (n : Int32) (k : Nat) : Int32 := mxL ((sls d b k).map (rkS st b n))
theorem jP9_s (st : MS) (d : Nat) (b : Bd) (n : Int32) (k : Nat) : jP9 st d b n (k + 1) = if (meB b).testBit k = true then mxI (jP9 st d b n k) (mxL ((gmv d b (some k)).map (rkS st b n))) else jP9 st d b n k := by
  unfold jP9
  rw [sls_s, List.map_append, mxL_app]
  by_cases h : (meB b).testBit k = true
  · rw [if_pos h, if_pos h]
  · rw [if_neg h, if_neg h]
    exact mxI_0 (mxL_0 _)
theorem vcX5_judge (x1 x2 : Int32) (st : MS) (hp : pX5_judge x1 x2 st) : wX5_judge_0 (fun (r : Int32) (u : MS) => qX5_judge x1 x2 st r ∧ st = u) x1 x2 st := by
  obtain ⟨hc, ⟨d, l, hr⟩, k, b, rfl, ⟨hk1, hb, hs⟩⟩ := hp
  have hd := hr.1
  have hl := hr.2.1
  have hm := meB_lt hb
  have ho := otB_lt hb
  have l3 : b.2.2 < 2 := hb.2.2.2
  have fin : ∀ m : Int32, (cnt (meB b) ≤ 3 → loN d l (meB b) (otB b) = false → m = mxL ((mvl d l b).map (rkS st b x2))) → wX5_judge_155 (fun (r : Int32) (u : MS) => qX5_judge (nI k) x2 st r ∧ st = u) x2 m st := by
    intro m hmm
    have q : ∀ r, r = jdI m x2 → qX5_judge (nI k) x2 st r ∧ st = st := by
      intro r h
      refine ⟨?_, rfl⟩
      intro d' l' k' b' hr' e hk' hcn hlo
      obtain ⟨rfl, rfl⟩ := rOK_inj hr hr'
      have hk1' := hk'.1
      have := nI_inj e (by omega) (by omega)
      subst this
      have := pkB_inj hb hk'.2.1 (hs.symm.trans hk'.2.2)
      subst this
      rw [← hmm hcn hlo]
      exact h
    refine ⟨fun h => ⟨fun h1 => q _ ?_, fun h1 => q _ ?_⟩, fun h => q _ ?_⟩
    · unfold jdI; rw [if_neg h, if_neg h1]
    · unfold jdI; rw [if_neg h, if_pos h1]
    · unfold jdI; rw [if_pos h]
  have h43 : wX5_judge_43 (fun (r : Int32) (u : MS) => qX5_judge (nI k) x2 st r ∧ st = u) (nI k) x2 (nI (meB b)) (nI (otB b)) st := by
    intro r1 h1
    have h1 := h1 (meB b) hm rfl
    subst h1
    have c9 := cnt_le (meB b)
    refine ⟨fun h => ?_, fun h => ?_⟩
    · have h3 := nle_of (show nI 3 ≤ nI (cnt (meB b)) from h) (by omega) (by omega)
      refine ⟨⟨d, l, hr, meB b, otB b, hm, ho, rfl, rfl⟩, fun r2 h2 => ?_⟩
      have h2 := h2 d l _ _ hr hm ho rfl rfl
      subst h2
      refine ⟨fun h4 => ?_, fun h4 => ?_⟩
      · have hnl := b2_0.mp h4
        unfold wX5_judge_109 wX5_judge_112
        refine wloop_up 9 (fun j (v : Int32 × Int32 × Int32 × Int32 × Int32 × MS) => j ≤ 9 ∧ v = (nI k, x2, nI (meB b), jP9 st d b x2 j, nI j, st)) 0 ⟨Nat.zero_le _, rfl⟩ ?_
        rintro j v L ⟨hj, rfl⟩ hL
        refine ⟨fun h => ?_, fun h => ?_⟩
        · have := nle_of (show nI 9 ≤ nI j from h) (by omega) (by omega)
          have e : j = 9 := by omega
          subst e
          exact fin _ (fun hc3 hlo => by rw [mvl_sl (by omega) hc3 hlo hnl]; rfl)
        · have hlt := nlt_of (show ¬ nI 9 ≤ nI j from h) (by omega) (by omega)
          refine ⟨fun h2 => ?_, fun h2 => ?_⟩
          · have hb2 : ¬ (meB b).testBit j = true := fun z => h2 ((bit_t _ hm j hlt).mpr z)
            refine hL _ hlt ⟨by omega, ?_⟩
            show (nI k, x2, nI (meB b), jP9 st d b x2 j, nI j + 1, st) = _
            rw [jP9_s, if_neg hb2, nI_up]
          · have hb2 : (meB b).testBit j = true := (bit_t _ hm j hlt).mp h2
            have hf : frI (nI j) b (some j) := ⟨hlt, rfl, hb2⟩
            refine ⟨⟨hc, ⟨d, l, hr⟩, k, b, some j, rfl, ⟨hk1, hb, hs⟩, hf⟩, fun r5 h5 r6 h6 => ?_⟩
            have h5 := h5 d l k b (some j) hr rfl ⟨hk1, hb, hs⟩ hf
            have h6 : r6 = mxI (jP9 st d b x2 j) r5 := h6
            subst h6
            subst h5
            refine hL _ hlt ⟨by omega, ?_⟩
            show (nI k, x2, nI (meB b), _, nI j + 1, st) = _
            rw [jP9_s, if_pos hb2, nI_up]
      · have hlk := b2_n0.mp h4
        refine ⟨⟨k, hk1, rfl⟩, fun r1 h1 => ⟨⟨k, hk1, rfl⟩, fun r3 h3 => ⟨⟨k, hk1, rfl⟩, fun r5 h5 => ?_⟩⟩⟩
        have h1 := h1 k b hk1 rfl hb hs
        have h3 := h3 k b hk1 rfl hb hs
        have h5 := h5 k b hk1 rfl hb hs
        have hbd : isBd b r1 r3 r5 := ⟨hb, h1, h3, h5⟩
        refine ⟨⟨hc, b, 90, hbd, Or.inl rfl, rfl⟩, fun r7 h7 r9 h9 => ?_⟩
        have h7 := h7 b 90 hbd (Or.inl rfl) rfl
        have h9 : r9 = rkI r7 x2 := h9
        subst h9
        subst h7
        refine fin _ (fun hc3 hlo => ?_)
        rw [mvl_lk hl hc3 hlo hlk]
        exact (mxL_one _ _).symm
    · have h3 := nlt_of (show ¬ nI 3 ≤ nI (cnt (meB b)) from h) (by omega) (by omega)
      have hf : frI (-6) b none := rfl
      refine ⟨⟨hc, ⟨d, l, hr⟩, k, b, none, rfl, ⟨hk1, hb, hs⟩, hf⟩, fun r2 h2 => fin _ (fun hc3 hlo => ?_)⟩
      rw [h2 d l k b none hr rfl ⟨hk1, hb, hs⟩ hf, mvl_pl h3 hlo]
  refine ⟨⟨k, hk1, rfl⟩, fun r1 h1 => ?_⟩
  have h1 := h1 k b hk1 rfl hb hs
  subst h1
  refine ⟨fun h => ?_, fun h => ?_⟩
  · have hm1 : ¬ b.2.2 = 0 := fun z => h (by rw [z]; rfl)
    have em : meB b = b.2.1 := by unfold meB sid; rw [if_neg hm1]
    have eo : otB b = b.1 := by unfold otB sid; rw [if_pos (by omega)]
    refine ⟨⟨k, hk1, rfl⟩, fun r2 h2 => ⟨⟨k, hk1, rfl⟩, fun r3 h3 => ?_⟩⟩
    have h2 := h2 k b hk1 rfl hb hs
    have h3 := h3 k b hk1 rfl hb hs
    subst h2
    subst h3
    refine ⟨fun _ => ⟨⟨k, hk1, rfl⟩, fun r4 h4 => ?_⟩, fun h5 => absurd h5 h⟩
    have h4 := h4 k b hk1 rfl hb hs
    subst h4
    rw [em, eo] at h43
    exact h43
  · have hm1 : b.2.2 = 0 := nI_inj (show nI b.2.2 = nI 0 from h) (by omega) (by omega)
    have em : meB b = b.1 := by unfold meB sid; rw [if_pos hm1]
    have eo : otB b = b.2.1 := by unfold otB sid; rw [if_neg (by omega)]
    refine ⟨⟨k, hk1, rfl⟩, fun r2 h2 => ⟨⟨k, hk1, rfl⟩, fun r3 h3 => ?_⟩⟩
    have h2 := h2 k b hk1 rfl hb hs
    have h3 := h3 k b hk1 rfl hb hs
    subst h2
    subst h3
    refine ⟨fun h5 => absurd h h5, fun _ => ⟨⟨k, hk1, rfl⟩, fun r4 h4 => ?_⟩⟩
    have h4 := h4 k b hk1 rfl hb hs
    subst h4
    rw [em, eo] at h43
    exact h43
