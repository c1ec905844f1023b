/-! SPEC of level; the worths after n levels -/
abbrev FI : Type := Nat → Int32
theorem TW_sub {ct : Nat → ClassId} {ad : Nat → Nat} {tl : va_W} {st : MS} {x : Nat × va_E} : (TW ct ad tl st).Sublist (TW ct ad (x :: tl) st) := (((((List.sublist_cons_self x tl).cons₂ _).cons₂ _).cons₂ _).cons₂ _).cons₂ _
theorem nI_nn {N : Nat} (h : N < 100000000) : ¬ nI N < 0 := fun z => absurd (nl_of (show nI N < nI 0 from z) (by omega) (by omega)) (Nat.not_lt_zero _)
/-- the table after n - 1 levels -/
def tabAt (d l : Nat) (n : Nat) (st : MS) : Prop := rOK d l st ∧ cOK st ∧ lstT (LB d) st ∧ ∀ b ∈ LB d, st.1 2 (ixB b) = iI (clp ((n : Int) - 1) (wrb d l b))
def pX5_level (x1 : Int32) (st : MS) : Prop := ∃ d l n, 1 ≤ n ∧ n ≤ 100 ∧ x1 = nI n ∧ tabAt d l n st
def qX5_level (x1 : Int32) (st : MS) (r : Int32) (st1 : MS) : Prop := ∀ d l n, 1 ≤ n → n ≤ 100 → x1 = nI n → tabAt d l n st → tabAt d l (n + 1) st1 ∧ ∃ c, r = nI c ∧ c ≤ 18847 ∧ (c = 0 ↔ ¬ atL d l n)
theorem ixB_inj {b b' : Bd} (h : bokB b) (h' : bokB b') (e : ixB b = ixB b') : b = b' := by
  have h1 := trn_lt h.2.2.1 9
  have h2 := trn_lt h'.2.2.1 9
  have g1 := h.2.2.2
  have g2 := h'.2.2.2
  have hc : cod b.1 b.2.1 b.2.2 = cod b'.1 b'.2.1 b'.2.2 := by
    unfold ixB at e
    unfold cod
    have e1 : b.2.2 = b'.2.2 := by omega
    have e2 : trn b.1 b.2.1 9 = trn b'.1 b'.2.1 9 := by omega
    rw [e1, e2]
  obtain ⟨i1, i2, i3⟩ := cod_inj h h' hc
  exact Prod.ext i1 (Prod.ext i2 i3)
theorem mxL_012 : ∀ us : List Int32, (∀ u ∈ us, u = 0 ∨ u = 1 ∨ u = 2) → ((2 : Int32) ∈ us → mxL us = 2) ∧ ((2 : Int32) ∉ us → (1 : Int32) ∈ us → mxL us = 1) ∧ ((2 : Int32) ∉ us → (1 : Int32) ∉ us → mxL us = 0)
  | [], _ => ⟨fun h => (by cases h), fun _ h => (by cases h), fun _ _ => rfl⟩
  | u :: us, h => by
    obtain ⟨i1, i2, i3⟩ := mxL_012 us (fun v hv => h v (List.mem_cons_of_mem _ hv))
    have e : mxL (u :: us) = mxI (mxL [u]) (mxL us) := mxL_app [u] us
    rw [e]
    have hu := h u List.mem_cons_self
    simp only [List.mem_cons]
    by_cases c2 : (2 : Int32) ∈ us
    · rw [i1 c2]
      rcases hu with rfl | rfl | rfl
      · exact ⟨fun _ => rfl, fun z => absurd (Or.inr c2) z, fun z => absurd (Or.inr c2) z⟩
      · exact ⟨fun _ => rfl, fun z => absurd (Or.inr c2) z, fun z => absurd (Or.inr c2) z⟩
      · exact ⟨fun _ => rfl, fun z => absurd (Or.inr c2) z, fun z => absurd (Or.inr c2) z⟩
    · by_cases c1 : (1 : Int32) ∈ us
      · rw [i2 c2 c1]
        rcases hu with rfl | rfl | rfl
        · exact ⟨fun z => by rcases z with z | z; exact absurd z (by decide); exact absurd z c2, fun _ _ => rfl, fun _ z => absurd (Or.inr c1) z⟩
        · exact ⟨fun z => by rcases z with z | z; exact absurd z (by decide); exact absurd z c2, fun _ _ => rfl, fun _ z => absurd (Or.inr c1) z⟩
        · exact ⟨fun _ => rfl, fun z => absurd (Or.inl rfl) z, fun z => absurd (Or.inl rfl) z⟩
      · rw [i3 c2 c1]
        rcases hu with rfl | rfl | rfl
        · exact ⟨fun z => by rcases z with z | z; exact absurd z (by decide); exact absurd z c2, fun _ z => by rcases z with z | z; exact absurd z (by decide); exact absurd z c1, fun _ _ => rfl⟩
        · exact ⟨fun z => by rcases z with z | z; exact absurd z (by decide); exact absurd z c2, fun _ _ => rfl, fun _ z => absurd (Or.inl rfl) z⟩
        · exact ⟨fun _ => rfl, fun z => absurd (Or.inl rfl) z, fun z => absurd (Or.inl rfl) z⟩
theorem rkI_iI {u : Int} {n : Nat} (h1 : -11 ≤ u) (h2 : u ≤ 10) (hn : n ≤ 100) : rkI (iI u) (nI n) = if u = -(n : Int) then 2 else if 0 < u ∧ u < n then 0 else 1 := by
  unfold rkI
  have e1 : (iI u = -nI n) ↔ u = -(n : Int) := by rw [iI_nI, iI_neg, iI_eq]
  have e2 : ((0 : Int32) < iI u) ↔ 0 < u := by rw [show (0 : Int32) = iI 0 from rfl, iI_lt]
  have e3 : (iI u < nI n) ↔ u < (n : Int) := by rw [iI_nI, iI_lt]
  simp only [e1, e2, e3]
/-- judge answers what the next level knows -/
theorem judge_clp {d l n : Nat} {st : MS} {b : Bd} (hn1 : 1 ≤ n) (hn2 : n ≤ 100) (h : tabAt d l n st) (hb : b ∈ LB d) (h0 : clp ((n : Int) - 1) (wrb d l b) = 0) : loN d l (meB b) (otB b) = false ∧ jdI (mxL ((mvl d l b).map (rkS st b (nI n)))) (nI n) = iI (clp n (wrb d l b)) := by
  obtain ⟨hr, hc, hls, hw⟩ := h
  have hd := hr.1
  have hl := hr.2.1
  obtain ⟨hbk, hlg⟩ := LB_mem.mp hb
  have hcert := cert hd hl hbk hlg
  obtain ⟨hne, j1, j2, j3⟩ := clp_judge (n := (n : Int)) hcert (by omega) h0
  have hcn : cnt (meB b) ≤ 3 := by
    unfold legB legal at hlg
    simp only [Bool.and_eq_true, Bool.or_eq_true, decide_eq_true_eq] at hlg
    unfold meB sid
    split <;> omega
  have hlo : loN d l (meB b) (otB b) = false := by
    rw [← Bool.not_eq_true]
    intro hlt
    apply hne
    rw [List.map_eq_nil_iff, List.eq_nil_iff_forall_not_mem]
    intro q hq
    have := (mem_mvl.mp hq).2
    rw [mv_lost hcn hlt] at this
    cases this
  refine ⟨hlo, ?_⟩
  have hmem : ∀ q ∈ mvl d l b, rkS st b (nI n) q = (if clp ((n : Int) - 1) (wrb d l (nxb b q)) = -(n : Int) then 2 else if 0 < clp ((n : Int) - 1) (wrb d l (nxb b q)) ∧ clp ((n : Int) - 1) (wrb d l (nxb b q)) < n then 0 else 1) := by
    intro q hq
    have hk := isMv_okm (mem_mvl.mp hq).2
    have hnb := nxb_bok hbk hk
    have hnl := nxb_legal hbk hlg hq
    unfold rkS
    rw [hw _ (LB_mem.mpr ⟨hnb, hnl⟩)]
    have hrg := wrb_rng hd hl hnb hnl
    have := clp_rng (n := (n : Int) - 1) hrg.1 hrg.2
    exact rkI_iI this.1 this.2 hn2
  have h012 : ∀ u ∈ (mvl d l b).map (rkS st b (nI n)), u = 0 ∨ u = 1 ∨ u = 2 := by
    intro u hu
    obtain ⟨q, hq, rfl⟩ := List.mem_map.mp hu
    rw [hmem q hq]
    split
    · exact Or.inr (Or.inr rfl)
    · split
      · exact Or.inl rfl
      · exact Or.inr (Or.inl rfl)
  obtain ⟨m1, m2, m3⟩ := mxL_012 _ h012
  have two : (2 : Int32) ∈ (mvl d l b).map (rkS st b (nI n)) ↔ ∃ u ∈ (mvl d l b).map (fun q => wrb d l (nxb b q)), clp ((n : Int) - 1) u = -(n : Int) := by
    constructor
    · intro h2
      obtain ⟨q, hq, e⟩ := List.mem_map.mp h2
      refine ⟨_, List.mem_map.mpr ⟨q, hq, rfl⟩, ?_⟩
      rw [hmem q hq] at e
      split at e
      · assumption
      · split at e
        · exact absurd e (by decide)
        · exact absurd e (by decide)
    · rintro ⟨u, hu, e⟩
      obtain ⟨q, hq, rfl⟩ := List.mem_map.mp hu
      exact List.mem_map.mpr ⟨q, hq, by rw [hmem q hq, if_pos e]⟩
  have one : (2 : Int32) ∉ (mvl d l b).map (rkS st b (nI n)) → ((1 : Int32) ∈ (mvl d l b).map (rkS st b (nI n)) ↔ ¬ ∀ u ∈ (mvl d l b).map (fun q => wrb d l (nxb b q)), 0 < clp ((n : Int) - 1) u ∧ clp ((n : Int) - 1) u < n) := by
    intro hn
    constructor
    · intro h1 hall
      obtain ⟨q, hq, e⟩ := List.mem_map.mp h1
      have hu := hall _ (List.mem_map.mpr ⟨q, hq, rfl⟩)
      rw [hmem q hq] at e
      split at e
      · exact absurd e (by decide)
      · exact absurd e (by decide)
    · intro hnall
      apply Classical.byContradiction
      intro h1
      apply hnall
      intro u hu
      obtain ⟨q, hq, rfl⟩ := List.mem_map.mp hu
      apply Classical.byContradiction
      intro h3
      apply h1
      refine List.mem_map.mpr ⟨q, hq, ?_⟩
      rw [hmem q hq, if_neg (fun z => hn (two.mpr ⟨_, hu, z⟩)), if_neg h3]
  by_cases c2 : (2 : Int32) ∈ (mvl d l b).map (rkS st b (nI n))
  · rw [m1 c2, j1 (two.mp c2)]
    show nI n = _
    exact iI_nI n
  · have hno : ¬ ∃ u ∈ (mvl d l b).map (fun q => wrb d l (nxb b q)), clp ((n : Int) - 1) u = -(n : Int) := fun z => c2 (two.mpr z)
    by_cases c1 : (1 : Int32) ∈ (mvl d l b).map (rkS st b (nI n))
    · rw [m2 c2 c1, j3 hno ((one c2).mp c1)]; rfl
    · have hall : ∀ u ∈ (mvl d l b).map (fun q => wrb d l (nxb b q)), 0 < clp ((n : Int) - 1) u ∧ clp ((n : Int) - 1) u < n := by
        apply Classical.byContradiction
        intro z
        exact c1 ((one c2).mpr z)
      rw [m3 c2 c1, j2 hno hall]
      show -1 - nI n = _
      rw [iI_nI, show (-1 : Int32) = iI (-1) from rfl, iI_sub]
