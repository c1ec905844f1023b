/-! WP of level, printed by gen_tinit.py -/
def wX5_level_131 (N : Nat) (post : Int32 → MS → Prop)  (x3 : Int32) (st : MS) (g : FI) : Prop :=
  post x3 st
def wX5_level_125 (N : Nat) (post : Int32 → MS → Prop) (L75 : Int32 → Int32 → MS → FI → Prop) (x3 : Int32) (x4 : Int32) (st : MS) (g : FI) : Prop :=
  L75 x3 (x4 + (1 : Int32)) st g
def wX5_level_91 (N : Nat) (post : Int32 → MS → Prop) (L75 : Int32 → Int32 → MS → FI → Prop) (x3 : Int32) (x4 : Int32) (st : MS) (g : FI) : Prop :=
  pX5_first x4 st ∧ ∀ r_1 : Int32, qX5_first x4 st r_1 → pX5_second x4 st ∧ ∀ r_3 : Int32, qX5_second x4 st r_3 → pX5_mover x4 st ∧ ∀ r_5 : Int32, qX5_mover x4 st r_5 → pX5_indexOf r_1 r_3 r_5 st ∧ ∀ r_7 : Int32, qX5_indexOf r_1 r_3 r_5 st r_7 → vp_in x4 N ∧ vp_in r_7 39366 ∧ wX5_level_125 N post L75 (x3 + (1 : Int32)) x4 (mA st 2 (r_7).toNatClampNeg (g (x4).toNatClampNeg)) g
def wX5_level_84 (N : Nat) (post : Int32 → MS → Prop) (L75 : Int32 → Int32 → MS → FI → Prop) (x3 : Int32) (x4 : Int32) (st : MS) (g : FI) : Prop :=
  vp_in x4 N ∧ (((g (x4).toNatClampNeg) = 0) → wX5_level_125 N post L75 x3 x4 st g) ∧ ((¬ (g (x4).toNatClampNeg) = 0) → wX5_level_91 N post L75 x3 x4 st g)
def wX5_level_75_b (N : Nat) (post : Int32 → MS → Prop) (L75 : Int32 → Int32 → MS → FI → Prop) (x3 : Int32) (x4 : Int32) (st : MS) (g : FI) : Prop :=
  (((st.2 2) ≤ x4) → wX5_level_131 N post x3 st g) ∧ ((¬ (st.2 2) ≤ x4) → wX5_level_84 N post L75 x3 x4 st g)
def wX5_level_75 (N : Nat) (post : Int32 → MS → Prop)  (x3 : Int32) (x4 : Int32) (st : MS) (g : FI) : Prop :=
  wloop (V := Int32 × Int32 × MS × FI) (fun L v => wX5_level_75_b N post (fun x3 x4 st g => L (x3, x4, st, g)) v.1 v.2.1 v.2.2.1 v.2.2.2) (x3, x4, st, g)
def wX5_level_70 (N : Nat) (post : Int32 → MS → Prop)   (st : MS) (g : FI) : Prop :=
  wX5_level_75 N post (0 : Int32) (0 : Int32) st g
def wX5_level_63 (N : Nat) (post : Int32 → MS → Prop) (L9 : Int32 → Int32 → MS → FI → Prop) (x1 : Int32) (x3 : Int32) (s1 : Int32) (s2 : Int32) (st : MS) (g : FI) : Prop :=
  vp_in s1 N ∧ L9 x1 (x3 + (1 : Int32)) st (upd g (s1).toNatClampNeg s2)
def wX5_level_62 (N : Nat) (post : Int32 → MS → Prop) (L9 : Int32 → Int32 → MS → FI → Prop) (x1 : Int32) (x3 : Int32) (s1 : Int32) (st : MS) (g : FI) : Prop :=
  wX5_level_63 N post L9 x1 x3 s1 (0 : Int32) st g
def wX5_level_53 (N : Nat) (post : Int32 → MS → Prop) (L9 : Int32 → Int32 → MS → FI → Prop) (x1 : Int32) (x3 : Int32) (s1 : Int32) (st : MS) (g : FI) : Prop :=
  pX5_judge x3 x1 st ∧ ∀ r_1 : Int32, qX5_judge x3 x1 st r_1 → wX5_level_63 N post L9 x1 x3 s1 r_1 st g
def wX5_level_44 (N : Nat) (post : Int32 → MS → Prop) (L9 : Int32 → Int32 → MS → FI → Prop) (x1 : Int32) (x3 : Int32) (s0 : Int32) (st : MS) (g : FI) : Prop :=
  ((s0 = 0) → wX5_level_62 N post L9 x1 x3 x3 st g) ∧ ((¬ s0 = 0) → wX5_level_53 N post L9 x1 x3 x3 st g)
def wX5_level_43 (N : Nat) (post : Int32 → MS → Prop) (L9 : Int32 → Int32 → MS → FI → Prop) (x1 : Int32) (x3 : Int32) (st : MS) (g : FI) : Prop :=
  wX5_level_44 N post L9 x1 x3 (0 : Int32) st g
def wX5_level_39 (N : Nat) (post : Int32 → MS → Prop) (L9 : Int32 → Int32 → MS → FI → Prop) (x1 : Int32) (x3 : Int32) (st : MS) (g : FI) : Prop :=
  wX5_level_44 N post L9 x1 x3 (1 : Int32) st g
def wX5_level_17 (N : Nat) (post : Int32 → MS → Prop) (L9 : Int32 → Int32 → MS → FI → Prop) (x1 : Int32) (x3 : Int32) (st : MS) (g : FI) : Prop :=
  pX5_first x3 st ∧ ∀ r_1 : Int32, qX5_first x3 st r_1 → pX5_second x3 st ∧ ∀ r_3 : Int32, qX5_second x3 st r_3 → pX5_mover x3 st ∧ ∀ r_5 : Int32, qX5_mover x3 st r_5 → pX5_worth r_1 r_3 r_5 st ∧ ∀ r_7 : Int32, qX5_worth r_1 r_3 r_5 st r_7 → ((¬ r_7 = 0) → wX5_level_43 N post L9 x1 x3 st g) ∧ ((r_7 = 0) → wX5_level_39 N post L9 x1 x3 st g)
def wX5_level_9_b (N : Nat) (post : Int32 → MS → Prop) (L9 : Int32 → Int32 → MS → FI → Prop) (x1 : Int32) (x3 : Int32) (st : MS) (g : FI) : Prop :=
  (((st.2 2) ≤ x3) → wX5_level_70 N post st g) ∧ ((¬ (st.2 2) ≤ x3) → wX5_level_17 N post L9 x1 x3 st g)
def wX5_level_9 (N : Nat) (post : Int32 → MS → Prop)  (x1 : Int32) (x3 : Int32) (st : MS) (g : FI) : Prop :=
  wloop (V := Int32 × Int32 × MS × FI) (fun L v => wX5_level_9_b N post (fun x1 x3 st g => L (x1, x3, st, g)) v.1 v.2.1 v.2.2.1 v.2.2.2) (x1, x3, st, g)
