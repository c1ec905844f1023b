/-! A QUOTIENT OF TWO SMALL COUNTS IS A NUMBER -/
theorem fd_enc {s : Bool} {c : Nat} {q : Int} (hc : c < 16777216) (hq : q ≤ 104) : ∃ m, m ≤ 2139095040 ∧ FP.Core.encode FP.Core.b32 (FP.Core.Datum.fin s c q) = s.toNat * 2147483648 + m := by
  show ∃ m, _ ∧ (if c < 8388608 then (s.toNat * 256 + 0) * 8388608 + c else (s.toNat * 256 + ((q - (-149)).toNat + 1)) * 8388608 + (c - 8388608)) = _
  by_cases h : c < 8388608
  · rw [if_pos h]; exact ⟨c, by omega, by omega⟩
  · rw [if_neg h]; exact ⟨((q - (-149)).toNat + 1) * 8388608 + (c - 8388608), by omega, by omega⟩
theorem fd_settle {s : Bool} {c : Nat} {q : Int} : ∃ m, m ≤ 2139095040 ∧ FP.Core.encode FP.Core.b32 (FP.Core.settle FP.Core.b32 s c q) = s.toNat * 2147483648 + m := by
  have hi : ∃ m, m ≤ 2139095040 ∧ FP.Core.encode FP.Core.b32 (FP.Core.Datum.inf s) = s.toNat * 2147483648 + m := ⟨2139095040, by omega, by
    show (s.toNat * 256 + 255) * 8388608 + 0 = _
    omega⟩
  have hb : ∀ c' q', c' < 16777216 → ∃ m, m ≤ 2139095040 ∧ FP.Core.encode FP.Core.b32 (FP.Core.bound FP.Core.b32 s c' q') = s.toNat * 2147483648 + m := by
    intro c' q' h
    show ∃ m, _ ∧ FP.Core.encode FP.Core.b32 (if q' ≤ 104 then FP.Core.Datum.fin s c' q' else FP.Core.Datum.inf s) = _
    by_cases hq : q' ≤ 104
    · rw [if_pos hq]; exact fd_enc h hq
    · rw [if_neg hq]; exact hi
  show ∃ m, _ ∧ FP.Core.encode FP.Core.b32 (if c < 16777216 then FP.Core.bound FP.Core.b32 s c q else FP.Core.bound FP.Core.b32 s 8388608 (q + 1)) = _
  by_cases h : c < 16777216
  · rw [if_pos h]; exact hb _ _ h
  · rw [if_neg h]; exact hb _ _ (by omega)
theorem fd_ratio (s : Bool) (n d : Nat) (e : Int) : ∃ m, m ≤ 2139095040 ∧ FP.Core.encode FP.Core.b32 (FP.Core.roundRatio FP.Core.b32 s n d e) = s.toNat * 2147483648 + m := by
  unfold FP.Core.roundRatio
  split
  · exact fd_enc (by omega) (by decide)
  · exact fd_settle
theorem fd_vf (s : Bool) (m : Nat) (h : m ≤ 2139095040) : vf_n32 (UInt32.ofNat (s.toNat * 2147483648 + m)) := by
  unfold vf_n32
  rw [UInt32.le_iff_toNat_le, UInt32.toNat_and, UInt32.toNat_ofNat']
  have h1 : (s.toNat * 2147483648 + m) % 2 ^ 32 = s.toNat * 2147483648 + m := by
    cases s
    · show (0 * 2147483648 + m) % 4294967296 = 0 * 2147483648 + m
      omega
    · show (1 * 2147483648 + m) % 4294967296 = 1 * 2147483648 + m
      omega
  rw [h1]
  show (s.toNat * 2147483648 + m) &&& (2 ^ 31 - 1) ≤ 2139095040
  rw [Nat.and_two_pow_sub_one_eq_mod]
  omega
theorem fd_int {n : Nat} (h0 : 0 < n) (h : n < 16777216) : ∃ c q, 0 < c ∧ FP.Core.decode FP.Core.b32 (UInt32.ofNat (FP.Core.fromInt FP.Core.b32 (n : Int))).toNat = FP.Core.Datum.fin false c q := by
  have hl1 : 2 ^ n.log2 ≤ n := Nat.log2_self_le (by omega)
  have hl2 : n < 2 ^ (n.log2 + 1) := Nat.lt_log2_self
  have hl3 : n.log2 < 24 := by
    rw [Nat.log2_lt (by omega)]; omega
  generalize hk : n.log2 = k at hl1 hl2 hl3
  have hr : FP.Core.round FP.Core.b32 (FP.Core.ofInt (n : Int)) = FP.Core.Datum.fin false (n * 2 ^ (23 - k)) ((k : Int) - 23) := by
    have hlead : FP.Core.leading n 1 = k := by
      unfold FP.Core.leading
      simp only [hk, show (1 : Nat).log2 = 0 by decide]
      rw [if_pos]
      · simp
      · simp only [Int.natCast_zero, Int.sub_zero, Int.toNat_natCast]
        have : (-(k : Int)).toNat = 0 := by omega
        rw [this]; omega
    have hq : FP.Core.quantum FP.Core.b32 n 1 0 = (k : Int) - 23 := by
      unfold FP.Core.quantum
      rw [hlead]
      show max (-149 : Int) ((k : Int) + 0 - (24 - 1)) = _
      omega
    have hdec : decide ((n : Int) < 0) = false := by
      rw [decide_eq_false_iff_not]; omega
    show FP.Core.roundRatio FP.Core.b32 (decide ((n : Int) < 0)) (Int.natAbs n) 1 0 = _
    rw [hdec, Int.natAbs_natCast]
    unfold FP.Core.roundRatio
    rw [if_neg (by omega), hq]
    unfold FP.Core.roundAt FP.Core.unitsNum FP.Core.unitsDen
    have e1 : ((0 : Int) - ((k : Int) - 23)).toNat = 23 - k := by omega
    have e2 : ((k : Int) - 23 - 0).toNat = 0 := by omega
    rw [e1, e2]
    have hne : FP.Core.nearest (n * 2 ^ (23 - k)) (1 * 2 ^ 0) = n * 2 ^ (23 - k) := by
      unfold FP.Core.nearest
      have hmod : n * 2 ^ (23 - k) % (1 * 2 ^ 0) = 0 := Nat.mod_one _
      rw [hmod, if_pos (by decide)]
      exact Nat.div_one _
    rw [hne]
    have hlt : n * 2 ^ (23 - k) < 16777216 := by
      have h3 : n * 2 ^ (23 - k) < 2 ^ (k + 1) * 2 ^ (23 - k) := Nat.mul_lt_mul_of_pos_right hl2 (Nat.two_pow_pos _)
      rw [← Nat.pow_add, show k + 1 + (23 - k) = 24 by omega] at h3
      exact h3
    show (if n * 2 ^ (23 - k) < 16777216 then (if (k : Int) - 23 ≤ 104 then _ else _) else _) = _
    rw [if_pos hlt, if_pos (by omega)]
  have hlt : n * 2 ^ (23 - k) < 16777216 := by
    have h3 : n * 2 ^ (23 - k) < 2 ^ (k + 1) * 2 ^ (23 - k) := Nat.mul_lt_mul_of_pos_right hl2 (Nat.two_pow_pos _)
    rw [← Nat.pow_add, show k + 1 + (23 - k) = 24 by omega] at h3
    exact h3
  have hge : 8388608 ≤ n * 2 ^ (23 - k) := by
    have h3 : 2 ^ k * 2 ^ (23 - k) ≤ n * 2 ^ (23 - k) := Nat.mul_le_mul_right _ hl1
    rw [← Nat.pow_add, show k + (23 - k) = 23 by omega] at h3
    exact h3
  unfold FP.Core.fromInt
  rw [hr]
  generalize n * 2 ^ (23 - k) = c at hlt hge
  have he : FP.Core.encode FP.Core.b32 (FP.Core.Datum.fin false c ((k : Int) - 23)) = (k + 127) * 8388608 + (c - 8388608) := by
    show (if c < 8388608 then _ else (0 * 256 + ((((k : Int) - 23) - (-149)).toNat + 1)) * 8388608 + (c - 8388608)) = _
    rw [if_neg (by omega)]
    have : (((k : Int) - 23) - (-149)).toNat + 1 = k + 127 := by omega
    rw [this]; omega
  rw [he, UInt32.toNat_ofNat']
  have hm : ((k + 127) * 8388608 + (c - 8388608)) % 2 ^ 32 = (k + 127) * 8388608 + (c - 8388608) := by
    show _ % 4294967296 = _
    omega
  rw [hm]
  have hE : FP.Core.fieldE FP.Core.b32 ((k + 127) * 8388608 + (c - 8388608)) = k + 127 := by
    show ((k + 127) * 8388608 + (c - 8388608)) / 8388608 % 256 = _
    omega
  have hT : FP.Core.fieldT FP.Core.b32 ((k + 127) * 8388608 + (c - 8388608)) = c - 8388608 := by
    show ((k + 127) * 8388608 + (c - 8388608)) % 8388608 = _
    omega
  have hS : FP.Core.fieldS FP.Core.b32 ((k + 127) * 8388608 + (c - 8388608)) = false := by
    show (((k + 127) * 8388608 + (c - 8388608)) / 8388608 / 256 % 2 == 1) = _
    have : ((k + 127) * 8388608 + (c - 8388608)) / 8388608 / 256 % 2 = 0 := by omega
    rw [this]; rfl
  refine ⟨c, ((k : Int) - 23), by omega, ?_⟩
  unfold FP.Core.decode
  rw [hE, hT, hS, if_neg (by show ¬ (k + 127 = 255); omega), if_neg (by omega)]
  show FP.Core.Datum.fin false (8388608 + (c - 8388608)) (-149 + (((k + 127 : Nat) : Int) - 1)) = _
  have x1 : 8388608 + (c - 8388608) = c := by omega
  have x2 : (-149 + (((k + 127 : Nat) : Int) - 1)) = (k : Int) - 23 := by omega
  rw [x1, x2]
theorem fd_div {a b : Nat} (ha : a < 16777216) (h0 : 0 < b) (hb : b < 16777216) : ∃ s m, m ≤ 2139095040 ∧ FP.Core.div FP.Core.b32 (UInt32.ofNat (FP.Core.fromInt FP.Core.b32 (a : Int))).toNat (UInt32.ofNat (FP.Core.fromInt FP.Core.b32 (b : Int))).toNat = Bool.toNat s * 2147483648 + m := by
  obtain ⟨d, r, hd, e2⟩ := fd_int h0 hb
  have hA : ∃ c q, FP.Core.decode FP.Core.b32 (UInt32.ofNat (FP.Core.fromInt FP.Core.b32 (a : Int))).toNat = FP.Core.Datum.fin false c q := by
    by_cases hz : 0 < a
    · obtain ⟨c, q, _, e⟩ := fd_int hz ha
      exact ⟨c, q, e⟩
    · have : a = 0 := by omega
      subst this
      exact ⟨0, -149, by decide +kernel⟩
  obtain ⟨c, q, e1⟩ := hA
  unfold FP.Core.div
  rw [e1, e2]
  unfold FP.Core.quotient
  simp only []
  rw [if_neg (by omega)]
  obtain ⟨m, h1, h2⟩ := fd_ratio (false != false) c d (q - r)
  exact ⟨_, m, h1, h2⟩
theorem fd_fin {a b : Int32} (ha : 0 ≤ a.toInt ∧ a.toInt < 16777216) (hb : 0 < b.toInt ∧ b.toInt < 16777216) : vf_n32 (FP.fdiv (FP.i2f a) (FP.i2f b)) := by
  obtain ⟨n, hn⟩ := Int.eq_ofNat_of_zero_le ha.1
  obtain ⟨k, hk⟩ := Int.eq_ofNat_of_zero_le (show 0 ≤ b.toInt by omega)
  obtain ⟨s, m, h1, h2⟩ := fd_div (a := n) (b := k) (by omega) (by omega) (by omega)
  show vf_n32 (UInt32.ofNat (FP.Core.div FP.Core.b32 (UInt32.ofNat (FP.Core.fromInt FP.Core.b32 a.toInt)).toNat (UInt32.ofNat (FP.Core.fromInt FP.Core.b32 b.toInt)).toNat))
  rw [hn, hk, h2]
  exact fd_vf s m h1
