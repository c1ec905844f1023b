/-! PURE 2: the checker's quick functions are the ones meant; what the check says -/
set_option maxRecDepth 100000
theorem cntF_eq : ∀ m, m < 512 → cntF m = cnt m := by decide +kernel
theorem hasF_eq : ∀ m, m < 512 → ∀ d, d < 2 → (hasF d m = 1 ↔ hasL d m = true) := by decide +kernel
theorem trnF_eq : ∀ m, m < 512 → trnF m = trn m 0 9 := by decide +kernel
theorem trn_lin (f s : Nat) : ∀ n, trn f s n = trn f 0 n + 2 * trn s 0 n
  | 0 => rfl
  | n + 1 => by
    have h1 : cel f s n = cel f 0 n + 2 * cel s 0 n := by simp [cel]
    rw [trn, trn, trn, trn_lin f s n, h1, Nat.mul_add, Nat.mul_left_comm (3 ^ n) 2]
    omega
theorem codF_eq {f s mv : Nat} (hf : f < 512) (hs : s < 512) : codF f s mv = cod f s mv := by
  unfold codF cod
  rw [trnF_eq f hf, trnF_eq s hs, trn_lin f s 9]
theorem tb_sh (m k : Nat) : ((m >>> k) % 2 == 1) = m.testBit k := by
  rw [Nat.testBit_eq_decide_div_mod_eq, Nat.shiftRight_eq_div_pow]
  rfl
theorem poF_mem {m k : Nat} : k ∈ poF m ↔ k < 9 ∧ m.testBit k = true := by
  unfold poF
  rw [List.mem_filter, List.mem_range, tb_sh]
theorem frF_eq (f s k : Nat) : frF f s k = fre f s k := by
  unfold frF fre
  have h := tb_sh (f ||| s) k
  rw [Nat.testBit_or] at h
  have h2 : (f ||| s) >>> k % 2 < 2 := Nat.mod_lt _ (by decide)
  cases h1 : f.testBit k <;> cases h3 : s.testBit k <;> simp_all <;> omega
theorem nbF_lt : ∀ d, d < 2 → ∀ p, p < 9 → (nbF d p).all (fun t => Nat.blt t 9) = true := by decide +kernel
theorem nbF_in : ∀ d, d < 2 → ∀ p, p < 9 → ∀ t, t < 9 → (t ∈ nbF d p ↔ isNb d p t = true) := by decide +kernel
theorem nbF_mem {d p t : Nat} (hd : d < 2) (hp : p < 9) : t ∈ nbF d p ↔ t < 9 ∧ isNb d p t = true := by
  constructor
  · intro h
    have h1 := List.all_eq_true.mp (nbF_lt d hd p hp) t h
    have h2 : t < 9 := by simpa [Nat.blt_eq] using h1
    exact ⟨h2, (nbF_in d hd p hp t h2).mp h⟩
  · intro ⟨h1, h2⟩
    exact (nbF_in d hd p hp t h1).mpr h2
theorem slF_mem {d me ot q : Nat} (hd : d < 2) : q ∈ slF d me ot ↔ isSl d me ot q = true := by
  unfold slF isSl
  simp only [List.mem_flatMap, List.mem_map, List.mem_filter, poF_mem, Bool.and_eq_true, decide_eq_true_eq]
  constructor
  · rintro ⟨p, ⟨h1, h2⟩, t, ⟨h3, h4⟩, rfl⟩
    rw [nbF_mem hd h1] at h3
    have e1 : (9 + 9 * p + t - 9) / 9 = p := by omega
    have e2 : (9 + 9 * p + t - 9) % 9 = t := by omega
    rw [e1, e2]
    rw [frF_eq] at h4
    exact ⟨⟨⟨⟨by omega, by omega⟩, h2⟩, h4⟩, h3.2⟩
  · rintro ⟨⟨⟨⟨h1, h2⟩, h3⟩, h4⟩, h5⟩
    refine ⟨(q - 9) / 9, ⟨by omega, h3⟩, (q - 9) % 9, ⟨(nbF_mem hd (by omega)).mpr ⟨by omega, h5⟩, by rw [frF_eq]; exact h4⟩, by omega⟩
theorem isSl_lt {d me ot q : Nat} (h : isSl d me ot q = true) : 9 ≤ q ∧ q < 90 := by
  unfold isSl at h
  simp only [Bool.and_eq_true, decide_eq_true_eq] at h
  exact ⟨h.1.1.1.1, h.1.1.1.2⟩
theorem isLk_nil {d me ot : Nat} (hd : d < 2) : isLk d me ot = true ↔ slF d me ot = [] := by
  unfold isLk
  rw [Bool.not_eq_true', List.any_eq_false]
  constructor
  · intro h
    apply List.eq_nil_iff_forall_not_mem.mpr
    intro q hq
    rw [slF_mem hd] at hq
    exact h q (List.mem_range.mpr (isSl_lt hq).2) hq
  · intro h q _ hq
    have : q ∈ slF d me ot := (slF_mem hd).mpr hq
    rw [h] at this
    cases this
theorem mvF_mem {d l me ot q : Nat} (hd : d < 2) (hme : me < 512) (hot : ot < 512) : q ∈ mvF d l me ot ↔ isMv d l me ot q = true := by
  unfold mvF isMv
  by_cases hl : hasL d ot = true
  · rw [if_pos ((hasF_eq ot hot d hd).mpr hl), hl]
    simp
  · rw [if_neg (fun h => hl ((hasF_eq ot hot d hd).mp h)), cntF_eq me hme]
    have hl' : hasL d ot = false := by simpa using hl
    rw [hl']
    simp only [Bool.not_false, Bool.true_and]
    by_cases hc : cnt me < 3
    · rw [if_pos hc, if_pos hc, List.mem_filter, List.mem_range, frF_eq]
      simp
    · rw [if_neg hc, if_neg hc]
      have hs := slF_mem (me := me) (ot := ot) (q := q) hd
      have hk := isLk_nil (me := me) (ot := ot) hd
      cases hL : slF d me ot with
      | nil =>
        rw [hL] at hs hk
        have h1 : isSl d me ot q = false := by
          cases h : isSl d me ot q with
          | false => rfl
          | true => exact absurd (hs.mpr h) (by simp)
        rw [h1, hk.mpr rfl]
        by_cases e : l = 1
        · simp [e]
        · simp [e]
      | cons a r =>
        rw [hL] at hs hk
        have h1 : isLk d me ot = false := by
          cases h : isLk d me ot with
          | false => rfl
          | true => exact absurd (hk.mp h) (by simp)
        rw [h1]
        simp only [Bool.and_false, Bool.or_false]
        exact hs
theorem sorted_ext : ∀ {a b : List Nat}, a.Pairwise (· < ·) → b.Pairwise (· < ·) → (∀ x, x ∈ a ↔ x ∈ b) → a = b
  | [], [], _, _, _ => rfl
  | [], y :: b, _, _, h => absurd ((h y).mpr List.mem_cons_self) (by simp)
  | x :: a, [], _, _, h => absurd ((h x).mp List.mem_cons_self) (by simp)
  | x :: a, y :: b, ha, hb, h => by
    rw [List.pairwise_cons] at ha hb
    have hxy : x = y := by
      rcases List.mem_cons.mp ((h x).mp List.mem_cons_self) with e | e
      · exact e
      · rcases List.mem_cons.mp ((h y).mpr List.mem_cons_self) with e2 | e2
        · exact e2.symm
        · have := hb.1 x e
          have := ha.1 y e2
          omega
    subst hxy
    rw [sorted_ext ha.2 hb.2 (fun z => ?_)]
    have := h z
    simp only [List.mem_cons] at this
    constructor
    · intro hz
      rcases this.mp (Or.inr hz) with e | e
      · subst e; exact absurd (ha.1 _ hz) (by omega)
      · exact e
    · intro hz
      rcases this.mpr (Or.inr hz) with e | e
      · subst e; exact absurd (hb.1 _ hz) (by omega)
      · exact e
theorem nbF_sorted : ∀ d, d < 2 → ∀ p, p < 9 → (nbF d p).Pairwise (· < ·) := by decide +kernel
theorem slF_sorted {d me ot : Nat} (hd : d < 2) : (slF d me ot).Pairwise (· < ·) := by
  unfold slF
  rw [List.pairwise_flatMap]
  constructor
  · intro p hp
    have := (poF_mem.mp hp).1
    rw [List.pairwise_map]
    refine ((nbF_sorted d hd p this).filter _).imp ?_
    intro a b h
    omega
  · have : (poF me).Pairwise (· < ·) := List.pairwise_lt_range.filter _
    refine this.imp_of_mem ?_
    intro p p' hp hp' h x hx y hy
    obtain ⟨t, ht, rfl⟩ := List.mem_map.mp hx
    obtain ⟨t', ht', rfl⟩ := List.mem_map.mp hy
    have h1 := ((nbF_mem hd (poF_mem.mp hp).1).mp (List.mem_filter.mp ht).1).1
    omega
theorem mvF_sorted {d l me ot : Nat} (hd : d < 2) : (mvF d l me ot).Pairwise (· < ·) := by
  unfold mvF
  have := slF_sorted (me := me) (ot := ot) hd
  split
  · exact List.Pairwise.nil
  · split
    · exact List.pairwise_lt_range.filter _
    · split
      · split
        · exact List.pairwise_singleton _ _
        · exact List.Pairwise.nil
      · rename_i h
        rw [h] at this
        exact this
theorem mvF_eq {d l me ot : Nat} (hd : d < 2) (hme : me < 512) (hot : ot < 512) : mvF d l me ot = lookL d l me ot := by
  refine sorted_ext (mvF_sorted hd) (List.pairwise_lt_range.filter _) (fun q => ?_)
  rw [mvF_mem hd hme hot]
  unfold lookL
  rw [List.mem_filter, List.mem_range]
  constructor
  · intro h
    refine ⟨?_, h⟩
    unfold isMv at h
    simp only [Bool.and_eq_true] at h
    have h2 := h.2
    split at h2
    · simp only [Bool.and_eq_true, decide_eq_true_eq] at h2
      omega
    · simp only [Bool.or_eq_true, Bool.and_eq_true, beq_iff_eq] at h2
      rcases h2 with h2 | h2
      · have := isSl_lt h2
        omega
      · omega
  · exact fun h => h.2
theorem look_mem {d l me ot q : Nat} : q ∈ lookL d l me ot ↔ q < 91 ∧ isMv d l me ot q = true := by
  unfold lookL
  rw [List.mem_filter, List.mem_range]
