/-! level -/
def fndL (d l n k : Nat) : Int32 := match (LB d)[k]? with
  | some b => if clp ((n : Int) - 1) (wrb d l b) = 0 then iI (clp n (wrb d l b)) else 0
  | none => 0
theorem fndL_at {d l n k : Nat} {b : Bd} (h : (LB d)[k]? = some b) : fndL d l n k = if clp ((n : Int) - 1) (wrb d l b) = 0 then iI (clp n (wrb d l b)) else 0 := by
  unfold fndL
  rw [h]
theorem clp_up {n w : Int} (h : ¬ clp (n - 1) w = 0) : clp n w = clp (n - 1) w := by
  rcases clp_or (n - 1) w with h1 | h1
  · rw [h1.1]
    exact clp_y h1.2.1 (by have := h1.2.2; omega)
  · exact absurd h1.1 h
theorem iI_0 {w : Int} (h1 : -11 ≤ w) (h2 : w ≤ 10) : iI w = 0 ↔ w = 0 := by
  rw [show (0 : Int32) = iI 0 from rfl, iI_eq]
theorem LB_at {d k : Nat} {b : Bd} {st : MS} (hls : lstT (LB d) st) (h : (LB d)[k]? = some b) : atK st k b := by
  have hk : k < (LB d).length := (List.getElem?_eq_some_iff.mp h).1
  have hlen := LB_len d
  exact ⟨by omega, (LB_mem.mp (List.mem_of_getElem? h)).1, hls.2 k b h⟩
theorem vcX5_level (x1 : Int32) (st : MS) (N : Nat) (hN : st.2 2 = nI N) (hN31 : N < 100000000) (hp : pX5_level x1 st) : wX5_level_9 N (qX5_level x1 st) x1 (0 : Int32) st (fun _ => 0) := by
  obtain ⟨d, l, n, hn1, hn2, rfl, ht⟩ := hp
  have ht0 := ht
  obtain ⟨hr, hc, hls, hw⟩ := ht
  have hd := hr.1
  have hl := hr.2.1
  have hlen := LB_len d
  have hNL : N = (LB d).length := nI_inj (hN.symm.trans hls.1) (by omega) (by omega)
  have rng : ∀ {m : Int} {b : Bd}, b ∈ LB d → -11 ≤ clp m (wrb d l b) ∧ clp m (wrb d l b) ≤ 10 := by
    intro m b hb
    obtain ⟨h1, h2⟩ := LB_mem.mp hb
    have := wrb_rng hd hl h1 h2
    exact clp_rng this.1 this.2
  unfold wX5_level_9
  refine wloop_up N (fun k (v : Int32 × Int32 × MS × FI) => k ≤ N ∧ ∃ g : FI, v = (nI n, nI k, st, g) ∧ ∀ j, j < k → g j = fndL d l n j) 0 ⟨Nat.zero_le _, fun _ => 0, rfl, fun j hj => absurd hj (Nat.not_lt_zero _)⟩ ?_
  rintro k v L ⟨hk, g, rfl, hg⟩ hL
  refine ⟨fun h => ?_, fun h => ?_⟩
  · have h : nI N ≤ nI k := by rw [← hN]; exact h
    have := nle_of h (by omega) (by omega)
    have e : k = N := by omega
    subst e
    unfold wX5_level_70 wX5_level_75
    refine wloop_up k (fun i (v : Int32 × Int32 × MS × FI) => i ≤ k ∧ ∃ (c : Nat) (st1 : MS), v = (nI c, nI i, st1, g) ∧ c ≤ i ∧ frm [2] [] st st1 ∧ (∀ j b, (LB d)[j]? = some b → st1.1 2 (ixB b) = iI (if j < i then clp n (wrb d l b) else clp ((n : Int) - 1) (wrb d l b))) ∧ (c = 0 ↔ ∀ j, j < i → g j = 0)) 0 ⟨Nat.zero_le _, 0, st, rfl, Nat.le_refl _, frm.refl _ _ _, fun j b hj => by rw [if_neg (Nat.not_lt_zero _)]; exact hw b (List.mem_of_getElem? hj), by simp⟩ ?_
    rintro i v L2 ⟨hi, c, st1, rfl, hci, hF, hw1, hz⟩ hL2
    have hm1 : st1.2 2 = nI k := by rw [hF.2 2 (by decide)]; exact hN
    have h3e : st1.1 3 = st.1 3 := hF.1 3 (by decide)
    refine ⟨fun h => ?_, fun h => ?_⟩
    · have h : nI k ≤ nI i := by rw [← hm1]; exact h
      have := nle_of h (by omega) (by omega)
      have e : i = k := by omega
      subst e
      intro d' l' n' hn1' hn2' e ht'
      have := nI_inj e (by omega) (by omega)
      subst this
      obtain ⟨rfl, rfl⟩ := rOK_inj hr ht'.1
      refine ⟨⟨?_, ?_, ⟨?_, ?_⟩, ?_⟩, c, rfl, by omega, ?_⟩
      · obtain ⟨r1, r2, r3, r4, r5⟩ := hr
        exact ⟨r1, r2, by rw [hF.2 0 (by decide)]; exact r3, by rw [hF.2 1 (by decide)]; exact r4, fun p hp => by rw [hF.1 0 (by decide)]; exact r5 p hp⟩
      · intro m hm
        rw [hF.1 1 (by decide)]
        exact hc m hm
      · rw [hm1, hNL]
      · intro j b hj
        rw [h3e]
        exact hls.2 j b hj
      · intro b hb
        obtain ⟨j, hj⟩ := List.mem_iff_getElem?.mp hb
        have hjl : j < (LB d).length := (List.getElem?_eq_some_iff.mp hj).1
        rw [hw1 j b hj, if_pos (by omega), show (((n + 1 : Nat) : Int) - 1) = (n : Int) from by omega]
      · rw [hz]
        constructor
        · rintro hall ⟨b, hbk, hlg, h0, hv⟩
          obtain ⟨j, hj⟩ := List.mem_iff_getElem?.mp (LB_mem.mpr ⟨hbk, hlg⟩)
          have hjl : j < (LB d).length := (List.getElem?_eq_some_iff.mp hj).1
          have e := hall j (by omega)
          rw [hg j (by omega), fndL_at hj, if_pos (clp_n (by omega)), clp_y h0 (by omega)] at e
          have hrg := wrb_rng hd hl hbk hlg
          exact h0 ((iI_0 hrg.1 hrg.2).mp e)
        · intro hna j hj
          obtain ⟨b, hb⟩ : ∃ b, (LB d)[j]? = some b := ⟨_, List.getElem?_eq_getElem (by omega)⟩
          have hbm := List.mem_of_getElem? hb
          rw [hg j hj, fndL_at hb]
          split
          · rename_i h0
            rw [iI_0 (rng hbm).1 (rng hbm).2]
            rcases clp_or n (wrb d l b) with h1 | h1
            · exfalso
              apply hna
              refine ⟨b, (LB_mem.mp hbm).1, (LB_mem.mp hbm).2, h1.2.1, ?_⟩
              rcases clp_or ((n : Int) - 1) (wrb d l b) with h2 | h2
              · exact absurd (h2.1.symm.trans h0) h2.2.1
              · have : ¬ lev (wrb d l b) ≤ (n : Int) - 1 := fun z => h2.2 ⟨h1.2.1, z⟩
                have := h1.2.2
                omega
            · exact h1.1
          · rfl
    · have h : ¬ nI k ≤ nI i := by rw [← hm1]; exact h
      have hlt := nlt_of h (by omega) (by omega)
      have hcl : (nI i).toNatClampNeg = i := nI_clamp (by omega)
      obtain ⟨b, hb⟩ : ∃ b, (LB d)[i]? = some b := ⟨_, List.getElem?_eq_getElem (by omega)⟩
      have hbm := List.mem_of_getElem? hb
      have hgi : g i = _ := (hg i hlt).trans (fndL_at hb)
      have hat := LB_at hls hb
      refine ⟨vin hlt (by omega), fun h2 => ?_, fun h2 => ?_⟩
      · have h2 : g (nI i).toNatClampNeg = 0 := h2
        rw [hcl] at h2
        refine hL2 _ hlt ⟨by omega, c, st1, by rw [← nI_up], by omega, hF, fun j b' hj => ?_, ?_⟩
        · rw [hw1 j b' hj]
          by_cases e : j = i
          · subst e
            rw [if_neg (by omega), if_pos (by omega)]
            rw [hb] at hj
            cases hj
            refine congrArg iI ?_
            rw [h2] at hgi
            by_cases h0 : clp ((n : Int) - 1) (wrb d l b) = 0
            · rw [if_pos h0] at hgi
              rw [h0, (iI_0 (rng hbm).1 (rng hbm).2).mp hgi.symm]
            · exact (clp_up h0).symm
          · by_cases e2 : j < i
            · rw [if_pos e2, if_pos (by omega)]
            · rw [if_neg e2, if_neg (by omega)]
        · rw [hz]
          constructor
          · intro ha j hj
            by_cases e : j = i
            · rw [e]; exact h2
            · exact ha j (by omega)
          · exact fun ha j hj => ha j (by omega)
      · have h2 : ¬ g (nI i).toNatClampNeg = 0 := h2
        rw [hcl] at h2
        have h0 : clp ((n : Int) - 1) (wrb d l b) = 0 := by
          apply Classical.byContradiction
          intro z
          rw [if_neg z] at hgi
          exact h2 hgi
        rw [if_pos h0] at hgi
        have hs1 : st1.1 3 i = nI (pkB b) := by rw [h3e]; exact hat.2.2
        refine ⟨⟨i, hat.1, rfl⟩, fun r1 h1 => ⟨⟨i, hat.1, rfl⟩, fun r3 h3 => ⟨⟨i, hat.1, rfl⟩, fun r5 h5 => ?_⟩⟩⟩
        have h1 := h1 i b hat.1 rfl hat.2.1 hs1
        have h3 := h3 i b hat.1 rfl hat.2.1 hs1
        have h5 := h5 i b hat.1 rfl hat.2.1 hs1
        have hbd : isBd b r1 r3 r5 := ⟨hat.2.1, h1, h3, h5⟩
        have hc1 : cOK st1 := fun m hm => by rw [hF.1 1 (by decide)]; exact hc m hm
        refine ⟨⟨hc1, b, hbd⟩, fun r7 h7 => ?_⟩
        have h7 := h7 b hbd
        subst h7
        have hix := ixB_lt hat.2.1
        refine ⟨vin hlt (by omega), vin hix, hL2 _ hlt ⟨by omega, c + 1, mA st1 2 (ixB b) (g i), ?_, by omega, hF.trans (frm_A (frm.refl _ _ _) (by decide)), fun j b' hj => ?_, ?_⟩⟩
        · show (nI c + 1, nI i + 1, mA st1 2 (nI (ixB b)).toNatClampNeg (g (nI i).toNatClampNeg), g) = _
          rw [nI_up, nI_up, nI_clamp (by omega), hcl]
        · show upd (st1.1 2) (ixB b) (g i) (ixB b') = _
          by_cases e : j = i
          · subst e
            rw [hb] at hj
            cases hj
            rw [pk_us, if_pos (by omega), hgi]
          · have hne : ixB b' ≠ ixB b := by
              intro z
              have hb'm := List.mem_of_getElem? hj
              have := ixB_inj (LB_mem.mp hb'm).1 (LB_mem.mp hbm).1 z
              subst this
              have hnd := LB_nodup d
              obtain ⟨hj1, ej⟩ := List.getElem?_eq_some_iff.mp hj
              obtain ⟨hi1, ei⟩ := List.getElem?_eq_some_iff.mp hb
              have := List.pairwise_iff_getElem.mp hnd
              rcases Nat.lt_trichotomy j i with q | q | q
              · exact this j i hj1 hi1 q (ej.trans ei.symm)
              · exact e q
              · exact this i j hi1 hj1 q (ei.trans ej.symm)
            rw [pk_un hne, hw1 j b' hj]
            by_cases e2 : j < i
            · rw [if_pos e2, if_pos (by omega)]
            · rw [if_neg e2, if_neg (by omega)]
        · constructor
          · intro z; omega
          · intro ha
            exact absurd (ha i (by omega)) h2
  · have h : ¬ nI N ≤ nI k := by rw [← hN]; exact h
    have hlt := nlt_of h (by omega) (by omega)
    have hcl : (nI k).toNatClampNeg = k := nI_clamp (by omega)
    obtain ⟨b, hb⟩ : ∃ b, (LB d)[k]? = some b := ⟨_, List.getElem?_eq_getElem (by omega)⟩
    have hbm := List.mem_of_getElem? hb
    have hat := LB_at hls hb
    have nx : ∀ x : Int32, x = fndL d l n k → vp_in (nI k) N ∧ L (nI n, nI k + 1, st, upd g (nI k).toNatClampNeg x) := by
      intro x hx
      refine ⟨vin hlt (by omega), hL _ hlt ⟨by omega, upd g k x, by rw [nI_up, hcl], fun j hj => ?_⟩⟩
      by_cases e : j = k
      · subst e; rw [pk_us]; exact hx
      · rw [pk_un (by omega)]; exact hg j (by omega)
    refine ⟨⟨k, hat.1, rfl⟩, fun r1 h1 => ⟨⟨k, hat.1, rfl⟩, fun r3 h3 => ⟨⟨k, hat.1, rfl⟩, fun r5 h5 => ?_⟩⟩⟩
    have h1 := h1 k b hat.1 rfl hat.2.1 hat.2.2
    have h3 := h3 k b hat.1 rfl hat.2.1 hat.2.2
    have h5 := h5 k b hat.1 rfl hat.2.1 hat.2.2
    have hbd : isBd b r1 r3 r5 := ⟨hat.2.1, h1, h3, h5⟩
    refine ⟨⟨hc, b, hbd⟩, fun r7 h7 => ?_⟩
    have h7 := h7 b hbd
    rw [hw b hbm] at h7
    refine ⟨fun h8 => ?_, fun h8 => ?_⟩
    · have hnz : ¬ clp ((n : Int) - 1) (wrb d l b) = 0 := fun z => h8 (by rw [h7, z]; rfl)
      refine ⟨fun _ => nx 0 ?_, fun z => absurd rfl z⟩
      rw [fndL_at hb, if_neg hnz]
    · have h0 : clp ((n : Int) - 1) (wrb d l b) = 0 := (iI_0 (rng hbm).1 (rng hbm).2).mp (h7.symm.trans h8)
      refine ⟨fun z => absurd z (by decide), fun _ => ?_⟩
      refine ⟨⟨hc, ⟨d, l, hr⟩, k, b, rfl, hat⟩, fun r9 h9 => nx r9 ?_⟩
      obtain ⟨j1, j2⟩ := judge_clp hn1 hn2 ht0 hbm h0
      have hcn : cnt (meB b) ≤ 3 := by
        have hlg := (LB_mem.mp hbm).2
        unfold legB legal at hlg
        simp only [Bool.and_eq_true, Bool.or_eq_true, decide_eq_true_eq] at hlg
        unfold meB sid
        split <;> omega
      rw [h9 d l k b hr rfl hat hcn j1, j2, fndL_at hb, if_pos h0]
