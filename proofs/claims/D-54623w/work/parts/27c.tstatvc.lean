/-! the statics answer as their specs say -/
theorem vcJ4_abs (x0 : Int32) : wJ4_abs_0 (fun (r : Int32) (_ : Unit) => qJ4_abs x0 r) x0 := by
  refine ⟨fun h => ?_, fun h => ?_⟩
  · show x0 = _
    rw [if_pos h]
  · show -x0 = _
    rw [if_neg h]
theorem vcJ4_max (x0 x1 : Int32) : wJ4_max_0 (fun (r : Int32) (_ : Unit) => qJ4_max x0 x1 r) x0 x1 := by
  refine ⟨fun h => ?_, fun h => ?_⟩
  · show x1 = _
    rw [if_pos h]
  · show x0 = _
    rw [if_neg h]
theorem bc_all : ∀ m, m < 512 → wJ12_bitCount_0 (fun (r : Int32) (_ : Unit) => r = nI (cnt m)) (nI m) := by
  unfold wJ12_bitCount_0
  decide +kernel
theorem vcJ12_bitCount (x0 : Int32) : wJ12_bitCount_0 (fun (r : Int32) (_ : Unit) => qJ12_bitCount x0 r) x0 := by
  unfold wJ12_bitCount_0
  intro m hm e
  subst e
  exact bc_all m hm
theorem sg_all : ∀ k, k < 256 → wJ12_signum_0 (fun (r : Int32) (_ : Unit) => r = if 0 < ((k : Nat) : Int) - 128 then 1 else if ((k : Nat) : Int) - 128 < 0 then -1 else 0) (iI (((k : Nat) : Int) - 128)) := by
  unfold wJ12_signum_0
  decide +kernel
theorem vcJ12_signum (x0 : Int32) : wJ12_signum_0 (fun (r : Int32) (_ : Unit) => qJ12_signum x0 r) x0 := by
  unfold wJ12_signum_0
  intro w h1 h2 e
  subst e
  have h := sg_all (w + 128).toNat (by omega)
  have e2 : (((w + 128).toNat : Nat) : Int) - 128 = w := by omega
  rw [e2] at h
  exact h
theorem vcX0_isIn (x0 x1 x2 : Int32) : wX0_isIn_0 (fun (r : Int32) (_ : Unit) => qX0_isIn x0 x1 x2 r) x0 x1 x2 := by
  refine ⟨fun h => ⟨Or.inl rfl, ?_⟩, fun h => ⟨fun h2 => ⟨Or.inl rfl, ?_⟩, fun h2 => ⟨Or.inr rfl, ?_⟩⟩⟩
  · show (0 : Int32) = b2 _
    rw [decide_eq_false (fun z => absurd h (Int32.not_lt.mpr z.1))]; rfl
  · show (0 : Int32) = b2 _
    rw [decide_eq_false (fun z => absurd h2 (Int32.not_lt.mpr z.2))]; rfl
  · show (1 : Int32) = b2 _
    rw [decide_eq_true ⟨Int32.not_lt.mp h, Int32.not_lt.mp h2⟩]; rfl
theorem bes_all : ∀ a, a < 9 → ∀ b, b < 9 → (nI a = nI b ↔ a = b) ∧ ((1 : Int32) < (if 0 ≤ (nI a / (3 : Int32)) - (nI b / (3 : Int32)) then (nI a / (3 : Int32)) - (nI b / (3 : Int32)) else -((nI a / (3 : Int32)) - (nI b / (3 : Int32)))) ↔ ¬ dst (a / 3) (b / 3) ≤ 1) ∧ ((1 : Int32) < (if 0 ≤ (irm (nI a) (3 : Int32)) - (irm (nI b) (3 : Int32)) then (irm (nI a) (3 : Int32)) - (irm (nI b) (3 : Int32)) else -((irm (nI a) (3 : Int32)) - (irm (nI b) (3 : Int32)))) ↔ ¬ dst (a % 3) (b % 3) ≤ 1) := by decide +kernel
theorem vcX4_isBeside (x0 x1 : Int32) : wX4_isBeside_0 (fun (r : Int32) (_ : Unit) => qX4_isBeside x0 x1 r) x0 x1 := by
  intro r1 h1 r2 h2
  have h1 : r1 = _ := h1
  have h2 : r2 = _ := h2
  refine ⟨fun h => ⟨Or.inl rfl, ?_⟩, fun h => ⟨fun h3 => ⟨Or.inl rfl, ?_⟩, fun h3 => ⟨fun h4 => ⟨Or.inl rfl, ?_⟩, fun h4 => ⟨Or.inr rfl, ?_⟩⟩⟩⟩
  all_goals
    intro a ha b hb e1 e2
    subst e1
    subst e2
    obtain ⟨g1, g2, g3⟩ := bes_all a ha b hb
  · have := g1.mp h
    rw [show besN a b = false from decide_eq_false (fun z => z.1 this)]; rfl
  · rw [h1] at h3
    have := g2.mp h3
    rw [show besN a b = false from decide_eq_false (fun z => this z.2.1)]; rfl
  · rw [h2] at h4
    have := g3.mp h4
    rw [show besN a b = false from decide_eq_false (fun z => this z.2.2)]; rfl
  · rw [h1] at h3
    rw [h2] at h4
    rw [show besN a b = true from decide_eq_true ⟨fun z => h (g1.mpr z), Classical.byContradiction fun z => h3 (g2.mpr z), Classical.byContradiction fun z => h4 (g3.mpr z)⟩]; rfl
theorem sl_all : ∀ q, q < 91 → 9 ≤ q → (nI q - (9 : Int32)) / (9 : Int32) = nI ((q - 9) / 9) ∧ irm (nI q - (9 : Int32)) (9 : Int32) = nI ((q - 9) % 9) := by decide +kernel
theorem ap_or : ∀ me, me < 512 → ∀ q, q < 9 → nI me ||| ((1 : Int32) <<< (nI q &&& 31)) = nI (me ||| 2 ^ q) ∧ nI me &&& (((1 : Int32) <<< (nI q &&& 31)) ^^^ (-1 : Int32)) = nI (me &&& (511 ^^^ 2 ^ q)) ∧ (me &&& (511 ^^^ 2 ^ q)) < 512 := by decide +kernel
theorem ap_cl : ∀ q, q < 91 → (nI q = (90 : Int32) ↔ q = 90) ∧ ((9 : Int32) ≤ nI q ↔ 9 ≤ q) := by decide +kernel
theorem vcX4_behind (x0 x1 : Int32) : wX4_behind_0 (fun (r : Int32) (_ : Unit) => qX4_behind x0 x1 r) x0 x1 := by
  refine ⟨fun h => ⟨fun h2 => ?_, fun h2 => ?_⟩, fun h => ?_⟩
  all_goals
    intro me hme q hq e1 e2
    subst e1
    subst e2
    obtain ⟨g1, g2⟩ := ap_cl q hq
  · have q1 : ¬ q = 90 := fun z => h (g1.mpr z)
    have q2 := g2.mp h2
    obtain ⟨s1, s2⟩ := sl_all q hq q2
    rw [s1, s2]
    obtain ⟨-, a2, a3⟩ := ap_or me hme ((q - 9) / 9) (by omega)
    rw [a2, (ap_or _ a3 ((q - 9) % 9) (by omega)).1]
    unfold app
    rw [if_neg q1, if_neg (by omega)]
  · have q1 : ¬ q = 90 := fun z => h (g1.mpr z)
    have q2 : ¬ 9 ≤ q := fun z => h2 (g2.mpr z)
    rw [(ap_or me hme q (by omega)).1]
    unfold app
    rw [if_neg q1, if_pos (by omega)]
  · unfold app
    rw [if_pos (g1.mp h)]
theorem vcX5_rank (x0 x1 : Int32) : wX5_rank_0 (fun (r : Int32) (_ : Unit) => qX5_rank x0 x1 r) x0 x1 := by
  refine ⟨fun h => ⟨fun h2 => ?_, fun h2 => ⟨fun h3 => ?_, fun h3 => ?_⟩⟩, fun h => ?_⟩
  · show (1 : Int32) = _
    rw [if_neg h, if_neg (fun z => absurd z.1 (Int32.not_lt.mpr h2))]
  · show (1 : Int32) = _
    rw [if_neg h, if_neg (fun z => absurd z.2 (Int32.not_lt.mpr h3))]
  · show (0 : Int32) = _
    rw [if_neg h, if_pos ⟨Int32.not_le.mp h2, Int32.not_le.mp h3⟩]
  · show (2 : Int32) = _
    rw [if_pos h]
