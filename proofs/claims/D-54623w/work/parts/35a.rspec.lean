/-! SPEC of Rules.<init>: the object and its row next, the other rows not made yet -/
def RW (ct : Nat → ClassId) (a b : Nat) (tl : va_W) (st : MS) : va_W := (a, .inr (4, [.int (st.2 0), .int (st.2 1), .ref b, .null, .null, .null, .int 0])) :: (b, .inl (ct 0, 9, .inl (st.1 0))) :: tl
def rst0 : MS := (fun _ _ => 0, fun _ => 0)
def pX4_init (x1 x2 : Int32) : Prop := ∃ d l, d < 2 ∧ l < 2 ∧ x1 = nI d ∧ x2 = nI l
def qX4_init (x1 x2 : Int32) (st : MS) : Prop := ∀ d l, d < 2 → l < 2 → x1 = nI d → x2 = nI l → rOK d l st
theorem isB_fit {v : Int32} (h : isB v) : fits .boolean (.int v) = true := by
  rcases h with rfl | rfl <;> rfl
