/-! WP PREDICATES of Rules and Table (U), printed by gen_table.py -/
-- MorrisTables$Table.add(III)V
def wX5_add_83 (post : MS → Prop)  (s1 : Int32) (s2 : Int32) (st : MS) : Prop :=
  vp_in s1 39366 ∧ post (mA st 2 (s1).toNatClampNeg s2)
def wX5_add_82 (post : MS → Prop)  (s1 : Int32) (st : MS) : Prop :=
  wX5_add_83 post s1 (0 : Int32) st
def wX5_add_78 (post : MS → Prop)  (s1 : Int32) (st : MS) : Prop :=
  wX5_add_83 post s1 (-1 : Int32) st
def wX5_add_60 (post : MS → Prop)  (x1 : Int32) (x2 : Int32) (x3 : Int32) (s0 : Int32) (st : MS) : Prop :=
  pX5_indexOf x1 x2 x3 st ∧ ∀ r_1 : Int32, qX5_indexOf x1 x2 x3 st r_1 → ((s0 = 0) → wX5_add_82 post r_1 st) ∧ ((¬ s0 = 0) → wX5_add_78 post r_1 st)
def wX5_add_54 (post : MS → Prop)  (x1 : Int32) (x2 : Int32) (x3 : Int32) (st : MS) : Prop :=
  pX4_hasLost x2 x1 st ∧ ∀ r_1 : Int32, qX4_hasLost x2 x1 st r_1 → wX5_add_60 post x1 x2 x3 r_1 st
def wX5_add_45 (post : MS → Prop)  (x1 : Int32) (x2 : Int32) (x3 : Int32) (st : MS) : Prop :=
  pX4_hasLost x1 x2 st ∧ ∀ r_1 : Int32, qX4_hasLost x1 x2 st r_1 → wX5_add_60 post x1 x2 x3 r_1 st
def wX5_add_11 (post : MS → Prop)  (x1 : Int32) (x2 : Int32) (x3 : Int32) (st : MS) : Prop :=
  vp_in (st.2 2) 19683 ∧ ((¬ x3 = 0) → wX5_add_54 post x1 x2 x3 (mF (mA st 3 ((st.2 2)).toNatClampNeg ((x1 ||| (x2 <<< ((9 : Int32) &&& 31))) ||| (x3 <<< ((18 : Int32) &&& 31)))) 2 (((mA st 3 ((st.2 2)).toNatClampNeg ((x1 ||| (x2 <<< ((9 : Int32) &&& 31))) ||| (x3 <<< ((18 : Int32) &&& 31)))).2 2) + (1 : Int32)))) ∧ ((x3 = 0) → wX5_add_45 post x1 x2 x3 (mF (mA st 3 ((st.2 2)).toNatClampNeg ((x1 ||| (x2 <<< ((9 : Int32) &&& 31))) ||| (x3 <<< ((18 : Int32) &&& 31)))) 2 (((mA st 3 ((st.2 2)).toNatClampNeg ((x1 ||| (x2 <<< ((9 : Int32) &&& 31))) ||| (x3 <<< ((18 : Int32) &&& 31)))).2 2) + (1 : Int32))))
def wX5_add_10 (post : MS → Prop)   (st : MS) : Prop :=
  post st
def wX5_add_0 (post : MS → Prop)  (x1 : Int32) (x2 : Int32) (x3 : Int32) (st : MS) : Prop :=
  pX4_isLegal x1 x2 x3 st ∧ ∀ r_1 : Int32, qX4_isLegal x1 x2 x3 st r_1 → ((¬ r_1 = 0) → wX5_add_11 post x1 x2 x3 st) ∧ ((r_1 = 0) → wX5_add_10 post st)
-- MorrisTables$Table.findLegal()V
def wX5_findLegal_52 (post : MS → Prop)   (st : MS) : Prop :=
  post st
def wX5_findLegal_46 (post : MS → Prop) (L2 : Int32 → MS → Prop) (x1 : Int32) (st : MS) : Prop :=
  L2 (x1 + (1 : Int32)) st
def wX5_findLegal_26 (post : MS → Prop) (L11 : Int32 → Int32 → MS → Prop) (x1 : Int32) (x2 : Int32) (st : MS) : Prop :=
  pX5_add x1 x2 (0 : Int32) st ∧ ∀ st_1 : MS, qX5_add x1 x2 (0 : Int32) st st_1 → pX5_add x1 x2 (1 : Int32) st_1 ∧ ∀ st_2 : MS, qX5_add x1 x2 (1 : Int32) st_1 st_2 → L11 x1 (x2 + (1 : Int32)) st_2
def wX5_findLegal_18 (post : MS → Prop) (L2 : Int32 → MS → Prop) (L11 : Int32 → Int32 → MS → Prop) (x1 : Int32) (x2 : Int32) (st : MS) : Prop :=
  ∀ r_1 : Int32, qJ12_bitCount x1 r_1 → (((3 : Int32) < r_1) → wX5_findLegal_46 post L2 x1 st) ∧ ((¬ (3 : Int32) < r_1) → wX5_findLegal_26 post L11 x1 x2 st)
def wX5_findLegal_11_b (post : MS → Prop) (L2 : Int32 → MS → Prop) (L11 : Int32 → Int32 → MS → Prop) (x1 : Int32) (x2 : Int32) (st : MS) : Prop :=
  (((511 : Int32) < x2) → wX5_findLegal_46 post L2 x1 st) ∧ ((¬ (511 : Int32) < x2) → wX5_findLegal_18 post L2 L11 x1 x2 st)
def wX5_findLegal_11 (post : MS → Prop) (L2 : Int32 → MS → Prop) (x1 : Int32) (x2 : Int32) (st : MS) : Prop :=
  wloop (V := Int32 × Int32 × MS) (fun L v => wX5_findLegal_11_b post L2 (fun x1 x2 st => L (x1, x2, st)) v.1 v.2.1 v.2.2) (x1, x2, st)
def wX5_findLegal_9 (post : MS → Prop) (L2 : Int32 → MS → Prop) (x1 : Int32) (st : MS) : Prop :=
  wX5_findLegal_11 post L2 x1 (0 : Int32) st
def wX5_findLegal_2_b (post : MS → Prop) (L2 : Int32 → MS → Prop) (x1 : Int32) (st : MS) : Prop :=
  (((511 : Int32) < x1) → wX5_findLegal_52 post st) ∧ ((¬ (511 : Int32) < x1) → wX5_findLegal_9 post L2 x1 st)
def wX5_findLegal_2 (post : MS → Prop)  (x1 : Int32) (st : MS) : Prop :=
  wloop (V := Int32 × MS) (fun L v => wX5_findLegal_2_b post (fun x1 st => L (x1, st)) v.1 v.2) (x1, st)
def wX5_findLegal_0 (post : MS → Prop)   (st : MS) : Prop :=
  wX5_findLegal_2 post (0 : Int32) st
