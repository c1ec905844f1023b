/-! SPEC of Table.<init>; what a made table holds -/
def tst0 (st : MS) : MS := (fun k => if k = 0 then st.1 0 else fun _ => 0, fun k => if k = 2 then 0 else st.2 k)
/-- a made table -/
def tabF (d l : Nat) (st : MS) : Prop := rOK d l st ∧ cOK st ∧ lstT (LB d) st ∧ ∀ b ∈ LB d, st.1 2 (ixB b) = iI (wrb d l b)
def qX5_init (x1 x2 : Int32) (st : MS) : Prop := ∀ d l, d < 2 → l < 2 → x1 = nI d → x2 = nI l → tabF d l st
theorem trn_half : ∀ m, m < 512 → trn m 0 9 = 3 * trn (m / 2) 0 9 + m % 2 := by decide +kernel
def wlT (d l : Nat) (L : List Bd) (st : MS) : Prop := ∀ b ∈ L, bokB b ∧ st.1 2 (ixB b) = -b2 (loN d l (meB b) (otB b))
theorem addT_w {d l : Nat} {b : Bd} {st : MS} {L : List Bd} (h : wlT d l L st) (h1 : b.1 < 512) (h2 : b.2.1 < 512) (h3 : b.2.2 < 2) : wlT d l (L ++ if isLg d b then [b] else []) (addT d l b st) := by
  unfold addT
  by_cases hb : isLg d b = true
  · rw [if_pos hb, if_pos hb]
    have hlg := hb
    unfold isLg at hlg
    rw [Bool.and_eq_true, decide_eq_true_eq] at hlg
    have hok : bokB b := ⟨h1, h2, hlg.1, h3⟩
    intro c hc
    rcases List.mem_append.mp hc with hc | hc
    · refine ⟨(h c hc).1, ?_⟩
      show upd (st.1 2) (ixB b) _ (ixB c) = _
      by_cases e : ixB c = ixB b
      · have := ixB_inj (h c hc).1 hok e
        subst this
        exact pk_us
      · rw [pk_un e]; exact (h c hc).2
    · rw [List.mem_singleton] at hc
      subst hc
      exact ⟨hok, pk_us⟩
  · rw [if_neg hb, if_neg hb, List.append_nil]
    exact h
theorem addS_w {d l f s : Nat} {st : MS} {L : List Bd} (h : wlT d l L st) (hf : f < 512) (hs : s < 512) : wlT d l (L ++ legs d f s) (addS d l f s st) := by
  rw [legs_isLg, ← List.append_assoc]
  exact addT_w (addT_w h hf hs (show 0 < 2 by decide)) hf hs (show 1 < 2 by decide)
theorem addR_w {d l f : Nat} {st : MS} (hf : f < 512) (h : wlT d l (LBa d f) st) : ∀ n, n ≤ 512 → wlT d l (LBa d f ++ LBr d f n) (addR d l f n st)
  | 0, _ => by
    show wlT d l (LBa d f ++ []) st
    rw [List.append_nil]; exact h
  | n + 1, hn => by
    rw [LBr_s, ← List.append_assoc]
    exact addS_w (addR_w hf h n (by omega)) hf (by omega)
theorem addA_w {d l : Nat} {st : MS} : ∀ n, n ≤ 512 → wlT d l (LBa d n) (addA d l n st)
  | 0, _ => fun b hb => by cases hb
  | n + 1, hn => by
    rw [LBa_s]
    exact addR_w (by omega) (addA_w n (by omega)) 512 (Nat.le_refl _)
theorem cnt2_le (p q : Nat → Bool) : ∀ L : List Nat, (∀ t ∈ L, (p t || q t) = true) → L.length ≤ L.countP p + L.countP q
  | [], _ => Nat.le_refl _
  | x :: L, h => by
    have ih := cnt2_le p q L (fun t ht => h t (List.mem_cons_of_mem _ ht))
    have hx := h x List.mem_cons_self
    rw [List.length_cons, List.countP_cons, List.countP_cons]
    cases hp : p x <;> cases hq : q x <;> simp_all <;> omega
/-- lost is who has no move -/
theorem lo_nil {d l : Nat} {b : Bd} (hd : d < 2) (hl : l < 2) (hb : bokB b) (hg : legB d b = true) : loN d l (meB b) (otB b) = true ↔ mvl d l b = [] := by
  have hc : cnt (meB b) ≤ 3 ∧ cnt (otB b) ≤ 3 := by
    unfold legB legal at hg
    simp only [Bool.and_eq_true, Bool.or_eq_true, decide_eq_true_eq] at hg
    unfold meB otB sid
    split <;> split <;> omega
  constructor
  · intro h
    rw [List.eq_nil_iff_forall_not_mem]
    intro q hq
    have := (mem_mvl.mp hq).2
    rw [mv_lost hc.1 h] at this
    cases this
  · intro h
    rw [← Bool.not_eq_false]
    intro hlo
    by_cases h3 : cnt (meB b) < 3
    · rw [mvl_pl h3 hlo] at h
      have hall : ∀ t ∈ List.range 9, ((meB b).testBit t || (otB b).testBit t) = true := by
        intro t ht
        apply Classical.byContradiction
        intro hz
        have hf : fre (meB b) (otB b) t = true := by
          unfold fre
          rw [Bool.not_eq_true, Bool.or_eq_false_iff] at hz
          rw [hz.1, hz.2]; rfl
        have : t ∈ gmv d b none := List.mem_filter.mpr ⟨ht, hf⟩
        rw [h] at this
        cases this
      have := cnt2_le _ _ _ hall
      have e1 : (List.range 9).countP (fun t => (meB b).testBit t) = cnt (meB b) := rfl
      have e2 : (List.range 9).countP (fun t => (otB b).testBit t) = cnt (otB b) := rfl
      rw [e1, e2, List.length_range] at this
      omega
    · cases hk : lkN d (meB b) (otB b) with
      | true =>
        rw [mvl_lk hl hc.1 hlo hk] at h
        cases h
      | false =>
        rw [mvl_sl h3 hc.1 hlo hk] at h
        unfold lkN at hk
        rw [decide_eq_true (show cnt (meB b) = 3 by omega), Bool.true_and] at hk
        unfold isLk at hk
        rw [Bool.not_eq_false', List.any_eq_true] at hk
        obtain ⟨q, _, hq⟩ := hk
        have := sls_mem.mpr hq
        rw [h] at this
        cases this
/-- what is known at first: those that are lost -/
theorem clp_first {d l : Nat} {b : Bd} (hd : d < 2) (hl : l < 2) (hb : bokB b) (hg : legB d b = true) : -b2 (loN d l (meB b) (otB b)) = iI (clp 0 (wrb d l b)) := by
  have hc := cert hd hl hb hg
  have hn := lo_nil hd hl hb hg
  generalize wrb d l b = w at *
  rcases hc with ⟨h1, h2⟩ | ⟨hne, h2⟩
  · rw [hn.mpr (List.map_eq_nil_iff.mp h1), h2]
    rw [clp_y (by omega) (by rw [lev_m (by omega)]; omega)]; rfl
  · have hf : loN d l (meB b) (otB b) = false := by
      rw [← Bool.not_eq_true]
      intro z
      exact hne (List.map_eq_nil_iff.mpr (hn.mp z))
    rw [hf, clp_n]
    · rfl
    · rintro ⟨h3, h4⟩
      rcases h2 with ⟨g1, g2, g3, g4, g5⟩ | ⟨g1, g2, g3⟩ | ⟨g1, g2, g3, g4⟩
      · rw [lev_m (by omega)] at h4; omega
      · exact h3 g1
      · rw [lev_p g1] at h4; omega
