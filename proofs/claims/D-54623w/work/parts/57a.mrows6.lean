/-! MORRISTABLES: fault -/
theorem flt_w {S : CS} {u : US} (h : rdPost S.2.2.2.1.2.2.2 u) (hc : ¬ b2 u.2.2.2.2.1 = 0) : nI u.2.2.2.1 = sFault (rep S) := by
  have h1 := b2_n0.mp hc
  rw [h.1, Bool.not_eq_true'] at h1
  unfold sFault
  rw [show (rdA (rep S).2.2.2 81 0).1 = false from h1, h.2.1]
  rfl
theorem flt_o {S : CS} {u : US} (h : rdPost S.2.2.2.1.2.2.2 u) (hc : b2 u.2.2.2.2.1 = 0) : (-6 : Int32) = sFault (rep S) := by
  have h1 := b2_0.mp hc
  rw [h.1, Bool.not_eq_false'] at h1
  unfold sFault
  rw [show (rdA (rep S).2.2.2 81 0).1 = true from h1]
  rfl
