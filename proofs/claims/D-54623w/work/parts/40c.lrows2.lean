/-! greatest and least of small numbers -/
theorem maxI_nat {u v : Nat} {r : Int32} (hu : u < 2147483648) (hv : v < 2147483648) (h : qJ4_max (nI u) (nI v) r) : r = nI (max u v) := by
  have h : r = if nI u < nI v then nI v else nI u := h
  rw [h]
  split
  · rename_i hc
    rw [Nat.max_eq_right (Nat.le_of_lt (nl_of hc hu hv))]
  · rename_i hc
    rw [Nat.max_eq_left (nge_of hc hu hv)]
theorem minI_nat {u v : Nat} {r : Int32} (h1 : u ≤ v) (hv : v < 2147483648) (h : r = if nI v < nI u then nI v else nI u) : r = nI u := by
  rw [h, if_neg]
  exact fun z => absurd (nl_of z hv (by omega)) (by omega)
