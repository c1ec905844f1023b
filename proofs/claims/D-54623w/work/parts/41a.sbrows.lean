/-! STRINGBUILDER: its world, and small numbers in bytes and chars -/
/-- a builder with room for cap signs; n signs stand at the start of f -/
def sbW (ct : Nat → ClassId) (a b : Nat) (ml : Int32) (cap : Nat) (f : Nat → Int32) (n : Nat) : va_W := [(a, .inr (7, [.ref b, .int 0, .int ml, .int (nI n)])), (b, .inl (ct 2, cap, .inl f))]
def fBy (f : Nat → Int32) (cap : Nat) : Prop := ∀ i, i < cap → fits .byte (.int (f i)) = true
/-- the signs in a greater array -/
def grF (f : Nat → Int32) (cap : Nat) : Nat → Int32 := fun i => if i < cap then f i else 0
theorem gr_cpy (f : Nat → Int32) (cap i : Nat) : va_cpy f (fun _ => 0) 0 0 cap i = grF f cap i := by
  unfold va_cpy grF
  by_cases h : i < cap
  · rw [if_pos ⟨Nat.zero_le _, by omega⟩, if_pos h, Nat.sub_zero, Nat.zero_add]
  · rw [if_neg (by omega), if_neg h]
theorem i2b_n : ∀ {z : Nat}, z < 128 → (nI z).toInt8.toInt32 = nI z := by
  intro z hz
  have : ∀ z, z < 128 → (nI z).toInt8.toInt32 = nI z := by decide +kernel
  exact this z hz
theorem nar_n : ∀ {z : Nat}, z < 128 → vp_nar .byte (nI z) = nI z := by
  intro z hz
  have : ∀ z, z < 128 → vp_nar .byte (nI z) = nI z := by decide +kernel
  exact this z hz
theorem fit_n : ∀ {z : Nat}, z < 128 → fits .byte (.int (nI z)) = true := by
  intro z hz
  have : ∀ z, z < 128 → fits .byte (.int (nI z)) = true := by decide +kernel
  exact this z hz
theorem ch_n : ∀ {z : Nat}, z < 128 → ((nI z &&& (255 : Int32)).toUInt32 % 65536).toInt32 = nI z := by
  intro z hz
  have : ∀ z, z < 128 → ((nI z &&& (255 : Int32)).toUInt32 % 65536).toInt32 = nI z := by decide +kernel
  exact this z hz
theorem ch_nar : ∀ {z : Nat}, z < 128 → narrow .char (.int (nI z)) = .int (nI z) := by
  intro z hz
  have : ∀ z, z < 128 → narrow .char (.int (nI z)) = .int (nI z) := by decide +kernel
  exact this z hz
theorem sh0_n {n : Nat} (h : n < 2147483648) : nI n >>> ((0 : Int32) &&& 31) = nI n := by
  rw [pk_shrN h _ 0 (by decide)]
  rw [Nat.pow_zero, Nat.div_one]
theorem shl0_n {n : Nat} (h : n < 2147483648) : nI n <<< ((0 : Int32) &&& 31) = nI n := by
  rw [pk_shlN _ 0 (by decide) (by omega)]
  rw [Nat.pow_zero, Nat.mul_one]
theorem subI_le {m cap : Nat} (hm : m ≤ cap) (hc : cap < 1000000) : nI m - nI cap ≤ 0 := by
  rw [iI_nI, iI_nI, iI_sub, show (0 : Int32) = iI 0 from rfl, iI_le]
  omega
theorem subI_gt {cap : Nat} (hc : cap < 1000000) : ¬ nI (cap + 1) - nI cap ≤ 0 := by
  rw [iI_nI, iI_nI, iI_sub, show (0 : Int32) = iI 0 from rfl, iI_le]
  omega
