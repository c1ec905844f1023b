/-! small rows for the proofs of wp predicates -/
theorem vin {n N : Nat} (h : n < N) (hN : N < 2147483648 := by decide) : vp_in (nI n) N := vp_in_nI h hN
theorem irm_n {a d : Nat} (ha : a < 2 ^ 31) (h0 : 0 < d) (hd : d < 2 ^ 31) : irm (nI a) (nI d) = nI (a % d) := pk_rem ha h0 hd
theorem isB_b2 (b : Bool) : isB (b2 b) := by cases b <;> simp [isB, b2]
theorem b2_0 {b : Bool} : b2 b = 0 ↔ b = false := by cases b <;> decide
theorem b2_n0 {b : Bool} : ¬ b2 b = 0 ↔ b = true := by cases b <;> decide
theorem b2_1 {b : Bool} : b2 b = 1 ↔ b = true := by cases b <;> decide
theorem b2_t {b : Bool} (h : b = true) : b2 b = 1 := by subst h; rfl
theorem b2_f {b : Bool} (h : b = false) : b2 b = 0 := by subst h; rfl
theorem nI_inj {a b : Nat} (h : nI a = nI b) (ha : a < 2147483648 := by omega) (hb : b < 2147483648 := by omega) : a = b := (nI_eq ha hb).mp h
theorem nle_of {a b : Nat} (h : nI a ≤ nI b) (ha : a < 2147483648 := by omega) (hb : b < 2147483648 := by omega) : a ≤ b := (nI_leI ha hb).mp h
theorem nlt_of {a b : Nat} (h : ¬ nI a ≤ nI b) (ha : a < 2147483648 := by omega) (hb : b < 2147483648 := by omega) : b < a := Nat.lt_of_not_le fun q => h ((nI_leI ha hb).mpr q)
theorem nl_of {a b : Nat} (h : nI a < nI b) (ha : a < 2147483648 := by omega) (hb : b < 2147483648 := by omega) : a < b := (nI_ltI ha hb).mp h
theorem nge_of {a b : Nat} (h : ¬ nI a < nI b) (ha : a < 2147483648 := by omega) (hb : b < 2147483648 := by omega) : b ≤ a := Nat.le_of_not_lt fun q => h ((nI_ltI ha hb).mpr q)
theorem sub_n {a b : Nat} (h : b ≤ a) : nI a - nI b = nI (a - b) := pk_sub h
theorem neg1_n (n : Nat) : nI (n + 1) + (-1 : Int32) = nI n := pk_m1 n
