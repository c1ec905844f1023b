/-! WP of nextOf, printed by gen_tinit.py -/
def wX4_nextOf_93 (n : Int32) (post : Int32 → Unit → Prop)  (x2 : Int32)  : Prop :=
  post x2 ()
def wX4_nextOf_87 (n : Int32) (post : Int32 → Unit → Prop) (L4 : Int32 → Int32 → Int32 → Prop) (x1 : Int32) (x2 : Int32) (x3 : Int32)  : Prop :=
  L4 x1 x2 (x3 + (1 : Int32))
def wX4_nextOf_79 (n : Int32) (post : Int32 → Unit → Prop) (L15 : Int32 → Int32 → Int32 → Int32 → Prop) (x1 : Int32) (x3 : Int32) (x4 : Int32) (s0 : Int32) (s1 : Int32)  : Prop :=
  L15 x1 (s0 ||| s1) x3 (x4 + (1 : Int32))
def wX4_nextOf_78 (n : Int32) (post : Int32 → Unit → Prop) (L15 : Int32 → Int32 → Int32 → Int32 → Prop) (x1 : Int32) (x3 : Int32) (x4 : Int32) (s0 : Int32)  : Prop :=
  wX4_nextOf_79 n post L15 x1 x3 x4 s0 (0 : Int32)
def wX4_nextOf_71 (n : Int32) (post : Int32 → Unit → Prop) (L15 : Int32 → Int32 → Int32 → Int32 → Prop) (x1 : Int32) (x3 : Int32) (x4 : Int32) (s0 : Int32)  : Prop :=
  wX4_nextOf_79 n post L15 x1 x3 x4 s0 ((1 : Int32) <<< (x4 &&& 31))
def wX4_nextOf_62 (n : Int32) (post : Int32 → Unit → Prop) (L15 : Int32 → Int32 → Int32 → Int32 → Prop) (x1 : Int32) (x3 : Int32) (x4 : Int32) (s0 : Int32)  : Prop :=
  ∀ r_1 : Int32, qX4_isBeside x1 x4 r_1 → ((r_1 = 0) → wX4_nextOf_78 n post L15 x1 x3 x4 s0) ∧ ((¬ r_1 = 0) → wX4_nextOf_71 n post L15 x1 x3 x4 s0)
def wX4_nextOf_54 (n : Int32) (post : Int32 → Unit → Prop) (L15 : Int32 → Int32 → Int32 → Int32 → Prop) (x1 : Int32) (x2 : Int32) (x3 : Int32) (x4 : Int32) (s0 : Int32)  : Prop :=
  ((s0 = 0) → wX4_nextOf_78 n post L15 x1 x3 x4 x2) ∧ ((¬ s0 = 0) → wX4_nextOf_62 n post L15 x1 x3 x4 x2)
def wX4_nextOf_53 (n : Int32) (post : Int32 → Unit → Prop) (L15 : Int32 → Int32 → Int32 → Int32 → Prop) (x1 : Int32) (x2 : Int32) (x3 : Int32) (x4 : Int32)  : Prop :=
  wX4_nextOf_54 n post L15 x1 x2 x3 x4 (0 : Int32)
def wX4_nextOf_49 (n : Int32) (post : Int32 → Unit → Prop) (L15 : Int32 → Int32 → Int32 → Int32 → Prop) (x1 : Int32) (x2 : Int32) (x3 : Int32) (x4 : Int32)  : Prop :=
  wX4_nextOf_54 n post L15 x1 x2 x3 x4 (1 : Int32)
def wX4_nextOf_35 (n : Int32) (post : Int32 → Unit → Prop) (L15 : Int32 → Int32 → Int32 → Int32 → Prop) (x1 : Int32) (x2 : Int32) (x3 : Int32) (x4 : Int32)  : Prop :=
  vp_in x3 8 ∧ ((¬ (((nI (lnN (x3).toNatClampNeg)) >>> (x4 &&& 31)) &&& (1 : Int32)) = (1 : Int32)) → wX4_nextOf_53 n post L15 x1 x2 x3 x4) ∧ (((((nI (lnN (x3).toNatClampNeg)) >>> (x4 &&& 31)) &&& (1 : Int32)) = (1 : Int32)) → wX4_nextOf_49 n post L15 x1 x2 x3 x4)
def wX4_nextOf_22 (n : Int32) (post : Int32 → Unit → Prop) (L15 : Int32 → Int32 → Int32 → Int32 → Prop) (x1 : Int32) (x2 : Int32) (x3 : Int32) (x4 : Int32)  : Prop :=
  vp_in x3 8 ∧ ((¬ (((nI (lnN (x3).toNatClampNeg)) >>> (x1 &&& 31)) &&& (1 : Int32)) = (1 : Int32)) → wX4_nextOf_53 n post L15 x1 x2 x3 x4) ∧ (((((nI (lnN (x3).toNatClampNeg)) >>> (x1 &&& 31)) &&& (1 : Int32)) = (1 : Int32)) → wX4_nextOf_35 n post L15 x1 x2 x3 x4)
def wX4_nextOf_15_b (n : Int32) (post : Int32 → Unit → Prop) (L4 : Int32 → Int32 → Int32 → Prop) (L15 : Int32 → Int32 → Int32 → Int32 → Prop) (x1 : Int32) (x2 : Int32) (x3 : Int32) (x4 : Int32)  : Prop :=
  (((9 : Int32) ≤ x4) → wX4_nextOf_87 n post L4 x1 x2 x3) ∧ ((¬ (9 : Int32) ≤ x4) → wX4_nextOf_22 n post L15 x1 x2 x3 x4)
def wX4_nextOf_15 (n : Int32) (post : Int32 → Unit → Prop) (L4 : Int32 → Int32 → Int32 → Prop) (x1 : Int32) (x2 : Int32) (x3 : Int32) (x4 : Int32)  : Prop :=
  wloop (V := Int32 × Int32 × Int32 × Int32) (fun L v => wX4_nextOf_15_b n post L4 (fun x1 x2 x3 x4 => L (x1, x2, x3, x4)) v.1 v.2.1 v.2.2.1 v.2.2.2) (x1, x2, x3, x4)
def wX4_nextOf_12 (n : Int32) (post : Int32 → Unit → Prop) (L4 : Int32 → Int32 → Int32 → Prop) (x1 : Int32) (x2 : Int32) (x3 : Int32)  : Prop :=
  wX4_nextOf_15 n post L4 x1 x2 x3 (0 : Int32)
def wX4_nextOf_4_b (n : Int32) (post : Int32 → Unit → Prop) (L4 : Int32 → Int32 → Int32 → Prop) (x1 : Int32) (x2 : Int32) (x3 : Int32)  : Prop :=
  ((n ≤ x3) → wX4_nextOf_93 n post x2) ∧ ((¬ n ≤ x3) → wX4_nextOf_12 n post L4 x1 x2 x3)
def wX4_nextOf_4 (n : Int32) (post : Int32 → Unit → Prop)  (x1 : Int32) (x2 : Int32) (x3 : Int32)  : Prop :=
  wloop (V := Int32 × Int32 × Int32) (fun L v => wX4_nextOf_4_b n post (fun x1 x2 x3 => L (x1, x2, x3)) v.1 v.2.1 v.2.2) (x1, x2, x3)
def wX4_nextOf_0 (n : Int32) (post : Int32 → Unit → Prop)  (x1 : Int32)  : Prop :=
  wX4_nextOf_4 n post x1 (0 : Int32) (0 : Int32)
