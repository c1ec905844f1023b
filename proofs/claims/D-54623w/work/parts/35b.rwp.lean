/-! WP of Rules.<init>, printed by gen_tinit2.py -/
def wX4_init_68 (b : Nat) (post : Nat × MS → Prop)   (st : MS) : Prop :=
  post (b, st)
def wX4_init_51 (b : Nat) (post : Nat × MS → Prop) (L45 : Int32 → MS → Prop) (x3 : Int32) (st : MS) : Prop :=
  pX4_nextOf x3 (st.2 0) ∧ ∀ r_1 : Int32, qX4_nextOf x3 (st.2 0) r_1 → vp_in x3 9 ∧ L45 (x3 + (1 : Int32)) (mA st 0 (x3).toNatClampNeg r_1)
def wX4_init_45_b (b : Nat) (post : Nat × MS → Prop) (L45 : Int32 → MS → Prop) (x3 : Int32) (st : MS) : Prop :=
  (((9 : Int32) ≤ x3) → wX4_init_68 b post st) ∧ ((¬ (9 : Int32) ≤ x3) → wX4_init_51 b post L45 x3 st)
def wX4_init_45 (b : Nat) (post : Nat × MS → Prop)  (x3 : Int32) (st : MS) : Prop :=
  wloop (V := Int32 × MS) (fun L v => wX4_init_45_b b post (fun x3 st => L (x3, st)) v.1 v.2) (x3, st)
def wX4_init_40 (b : Nat) (post : Nat × MS → Prop)  (s1 : Int32) (st : MS) : Prop :=
  isB s1 ∧ wX4_init_45 b post (0 : Int32) (mF st 1 s1)
def wX4_init_39 (b : Nat) (post : Nat × MS → Prop)   (st : MS) : Prop :=
  wX4_init_40 b post (0 : Int32) st
def wX4_init_35 (b : Nat) (post : Nat × MS → Prop)   (st : MS) : Prop :=
  wX4_init_40 b post (1 : Int32) st
def wX4_init_27 (b : Nat) (post : Nat × MS → Prop)  (x2 : Int32) (s1 : Int32) (st : MS) : Prop :=
  ((¬ x2 = 0) → wX4_init_39 b post (mF st 0 s1)) ∧ ((x2 = 0) → wX4_init_35 b post (mF st 0 s1))
def wX4_init_25 (b : Nat) (post : Nat × MS → Prop)  (x2 : Int32) (st : MS) : Prop :=
  wX4_init_27 b post x2 (6 : Int32) st
def wX4_init_18 (b : Nat) (post : Nat × MS → Prop)  (x2 : Int32) (st : MS) : Prop :=
  wX4_init_27 b post x2 (8 : Int32) st
def wX4_init_12 (b : Nat) (post : Nat × MS → Prop)  (x1 : Int32) (x2 : Int32) (st : MS) : Prop :=
  ((¬ x1 = (1 : Int32)) → wX4_init_25 b post x2 st) ∧ ((x1 = (1 : Int32)) → wX4_init_18 b post x2 st)
