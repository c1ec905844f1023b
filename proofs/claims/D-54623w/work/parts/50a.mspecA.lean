/-! MORRISTABLES: rooms of begun -/
def bgC (x1 x2 : Int32) (S : CS) : Nat := if x1 = 0 ∧ x2 ≠ 0 then rcC S else 0
def bgS (x1 x2 : Int32) (S : CS) : Nat := if x1 = 0 ∧ x2 ≠ 0 then rcS S else 0
theorem or_made {mk b : Bool} {P : Prop} (h : mk = true → P) (h' : b = true → P) : (mk || b) = true → P := fun z => by
  rw [Bool.or_eq_true] at z
  exact z.elim h h'
