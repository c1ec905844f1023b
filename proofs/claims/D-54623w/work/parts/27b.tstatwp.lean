/-! WP of statics, printed by gen_tstat.py -/
-- abs(I)I
def wJ4_abs_10 (post : Int32 → Unit → Prop)  (s0 : Int32)  : Prop :=
  post s0 ()
def wJ4_abs_9 (post : Int32 → Unit → Prop)  (x0 : Int32)  : Prop :=
  wJ4_abs_10 post x0
def wJ4_abs_4 (post : Int32 → Unit → Prop)  (x0 : Int32)  : Prop :=
  wJ4_abs_10 post (-x0)
def wJ4_abs_0 (post : Int32 → Unit → Prop)  (x0 : Int32)  : Prop :=
  ((0 ≤ x0) → wJ4_abs_9 post x0) ∧ ((¬ 0 ≤ x0) → wJ4_abs_4 post x0)
-- max(II)I
def wJ4_max_10 (post : Int32 → Unit → Prop)  (s0 : Int32)  : Prop :=
  post s0 ()
def wJ4_max_9 (post : Int32 → Unit → Prop)  (x1 : Int32)  : Prop :=
  wJ4_max_10 post x1
def wJ4_max_5 (post : Int32 → Unit → Prop)  (x0 : Int32)  : Prop :=
  wJ4_max_10 post x0
def wJ4_max_0 (post : Int32 → Unit → Prop)  (x0 : Int32) (x1 : Int32)  : Prop :=
  ((x0 < x1) → wJ4_max_9 post x1) ∧ ((¬ x0 < x1) → wJ4_max_5 post x0)
-- bitCount(I)I
def wJ12_bitCount_0 (post : Int32 → Unit → Prop)  (x0 : Int32)  : Prop :=
  post ((((((((x0 - ((x0.toUInt32 >>> ((1 : Int32).toUInt32 &&& Int32.toUInt32 31)).toInt32 &&& (1431655765 : Int32))) &&& (858993459 : Int32)) + (((x0 - ((x0.toUInt32 >>> ((1 : Int32).toUInt32 &&& Int32.toUInt32 31)).toInt32 &&& (1431655765 : Int32))).toUInt32 >>> ((2 : Int32).toUInt32 &&& Int32.toUInt32 31)).toInt32 &&& (858993459 : Int32))) + ((((x0 - ((x0.toUInt32 >>> ((1 : Int32).toUInt32 &&& Int32.toUInt32 31)).toInt32 &&& (1431655765 : Int32))) &&& (858993459 : Int32)) + (((x0 - ((x0.toUInt32 >>> ((1 : Int32).toUInt32 &&& Int32.toUInt32 31)).toInt32 &&& (1431655765 : Int32))).toUInt32 >>> ((2 : Int32).toUInt32 &&& Int32.toUInt32 31)).toInt32 &&& (858993459 : Int32))).toUInt32 >>> ((4 : Int32).toUInt32 &&& Int32.toUInt32 31)).toInt32) &&& (252645135 : Int32)) + ((((((x0 - ((x0.toUInt32 >>> ((1 : Int32).toUInt32 &&& Int32.toUInt32 31)).toInt32 &&& (1431655765 : Int32))) &&& (858993459 : Int32)) + (((x0 - ((x0.toUInt32 >>> ((1 : Int32).toUInt32 &&& Int32.toUInt32 31)).toInt32 &&& (1431655765 : Int32))).toUInt32 >>> ((2 : Int32).toUInt32 &&& Int32.toUInt32 31)).toInt32 &&& (858993459 : Int32))) + ((((x0 - ((x0.toUInt32 >>> ((1 : Int32).toUInt32 &&& Int32.toUInt32 31)).toInt32 &&& (1431655765 : Int32))) &&& (858993459 : Int32)) + (((x0 - ((x0.toUInt32 >>> ((1 : Int32).toUInt32 &&& Int32.toUInt32 31)).toInt32 &&& (1431655765 : Int32))).toUInt32 >>> ((2 : Int32).toUInt32 &&& Int32.toUInt32 31)).toInt32 &&& (858993459 : Int32))).toUInt32 >>> ((4 : Int32).toUInt32 &&& Int32.toUInt32 31)).toInt32) &&& (252645135 : Int32)).toUInt32 >>> ((8 : Int32).toUInt32 &&& Int32.toUInt32 31)).toInt32) + (((((((x0 - ((x0.toUInt32 >>> ((1 : Int32).toUInt32 &&& Int32.toUInt32 31)).toInt32 &&& (1431655765 : Int32))) &&& (858993459 : Int32)) + (((x0 - ((x0.toUInt32 >>> ((1 : Int32).toUInt32 &&& Int32.toUInt32 31)).toInt32 &&& (1431655765 : Int32))).toUInt32 >>> ((2 : Int32).toUInt32 &&& Int32.toUInt32 31)).toInt32 &&& (858993459 : Int32))) + ((((x0 - ((x0.toUInt32 >>> ((1 : Int32).toUInt32 &&& Int32.toUInt32 31)).toInt32 &&& (1431655765 : Int32))) &&& (858993459 : Int32)) + (((x0 - ((x0.toUInt32 >>> ((1 : Int32).toUInt32 &&& Int32.toUInt32 31)).toInt32 &&& (1431655765 : Int32))).toUInt32 >>> ((2 : Int32).toUInt32 &&& Int32.toUInt32 31)).toInt32 &&& (858993459 : Int32))).toUInt32 >>> ((4 : Int32).toUInt32 &&& Int32.toUInt32 31)).toInt32) &&& (252645135 : Int32)) + ((((((x0 - ((x0.toUInt32 >>> ((1 : Int32).toUInt32 &&& Int32.toUInt32 31)).toInt32 &&& (1431655765 : Int32))) &&& (858993459 : Int32)) + (((x0 - ((x0.toUInt32 >>> ((1 : Int32).toUInt32 &&& Int32.toUInt32 31)).toInt32 &&& (1431655765 : Int32))).toUInt32 >>> ((2 : Int32).toUInt32 &&& Int32.toUInt32 31)).toInt32 &&& (858993459 : Int32))) + ((((x0 - ((x0.toUInt32 >>> ((1 : Int32).toUInt32 &&& Int32.toUInt32 31)).toInt32 &&& (1431655765 : Int32))) &&& (858993459 : Int32)) + (((x0 - ((x0.toUInt32 >>> ((1 : Int32).toUInt32 &&& Int32.toUInt32 31)).toInt32 &&& (1431655765 : Int32))).toUInt32 >>> ((2 : Int32).toUInt32 &&& Int32.toUInt32 31)).toInt32 &&& (858993459 : Int32))).toUInt32 >>> ((4 : Int32).toUInt32 &&& Int32.toUInt32 31)).toInt32) &&& (252645135 : Int32)).toUInt32 >>> ((8 : Int32).toUInt32 &&& Int32.toUInt32 31)).toInt32).toUInt32 >>> ((16 : Int32).toUInt32 &&& Int32.toUInt32 31)).toInt32) &&& (63 : Int32)) ()
-- signum(I)I
def wJ12_signum_0 (post : Int32 → Unit → Prop)  (x0 : Int32)  : Prop :=
  post ((x0 >>> ((31 : Int32) &&& 31)) ||| ((-x0).toUInt32 >>> ((31 : Int32).toUInt32 &&& Int32.toUInt32 31)).toInt32) ()
-- isIn(III)Z
def wX0_isIn_15 (post : Int32 → Unit → Prop)  (s0 : Int32)  : Prop :=
  isB s0 ∧ post s0 ()
def wX0_isIn_14 (post : Int32 → Unit → Prop)    : Prop :=
  wX0_isIn_15 post (0 : Int32)
def wX0_isIn_10 (post : Int32 → Unit → Prop)    : Prop :=
  wX0_isIn_15 post (1 : Int32)
def wX0_isIn_5 (post : Int32 → Unit → Prop)  (x0 : Int32) (x2 : Int32)  : Prop :=
  ((x2 < x0) → wX0_isIn_14 post) ∧ ((¬ x2 < x0) → wX0_isIn_10 post)
def wX0_isIn_0 (post : Int32 → Unit → Prop)  (x0 : Int32) (x1 : Int32) (x2 : Int32)  : Prop :=
  ((x0 < x1) → wX0_isIn_14 post) ∧ ((¬ x0 < x1) → wX0_isIn_5 post x0 x2)
-- isBeside(II)Z
def wX4_isBeside_42 (post : Int32 → Unit → Prop)  (s0 : Int32)  : Prop :=
  isB s0 ∧ post s0 ()
def wX4_isBeside_41 (post : Int32 → Unit → Prop)    : Prop :=
  wX4_isBeside_42 post (0 : Int32)
def wX4_isBeside_37 (post : Int32 → Unit → Prop)    : Prop :=
  wX4_isBeside_42 post (1 : Int32)
def wX4_isBeside_32 (post : Int32 → Unit → Prop)  (x3 : Int32)  : Prop :=
  (((1 : Int32) < x3) → wX4_isBeside_41 post) ∧ ((¬ (1 : Int32) < x3) → wX4_isBeside_37 post)
def wX4_isBeside_27 (post : Int32 → Unit → Prop)  (x2 : Int32) (x3 : Int32)  : Prop :=
  (((1 : Int32) < x2) → wX4_isBeside_41 post) ∧ ((¬ (1 : Int32) < x2) → wX4_isBeside_32 post x3)
def wX4_isBeside_0 (post : Int32 → Unit → Prop)  (x0 : Int32) (x1 : Int32)  : Prop :=
  ∀ r_1 : Int32, qJ4_abs ((x0 / (3 : Int32)) - (x1 / (3 : Int32))) r_1 → ∀ r_2 : Int32, qJ4_abs ((irm x0 (3 : Int32)) - (irm x1 (3 : Int32))) r_2 → ((x0 = x1) → wX4_isBeside_41 post) ∧ ((¬ x0 = x1) → wX4_isBeside_27 post r_1 r_2)
-- behind(II)I
def wX4_behind_45 (post : Int32 → Unit → Prop)  (s0 : Int32)  : Prop :=
  post s0 ()
def wX4_behind_22 (post : Int32 → Unit → Prop)  (x0 : Int32) (x1 : Int32)  : Prop :=
  wX4_behind_45 post ((x0 &&& (((1 : Int32) <<< (((x1 - (9 : Int32)) / (9 : Int32)) &&& 31)) ^^^ (-1 : Int32))) ||| ((1 : Int32) <<< ((irm (x1 - (9 : Int32)) (9 : Int32)) &&& 31)))
def wX4_behind_14 (post : Int32 → Unit → Prop)  (x0 : Int32) (x1 : Int32)  : Prop :=
  wX4_behind_45 post (x0 ||| ((1 : Int32) <<< (x1 &&& 31)))
def wX4_behind_8 (post : Int32 → Unit → Prop)  (x0 : Int32) (x1 : Int32)  : Prop :=
  (((9 : Int32) ≤ x1) → wX4_behind_22 post x0 x1) ∧ ((¬ (9 : Int32) ≤ x1) → wX4_behind_14 post x0 x1)
def wX4_behind_6 (post : Int32 → Unit → Prop)  (x0 : Int32)  : Prop :=
  post x0 ()
def wX4_behind_0 (post : Int32 → Unit → Prop)  (x0 : Int32) (x1 : Int32)  : Prop :=
  ((¬ x1 = (90 : Int32)) → wX4_behind_8 post x0 x1) ∧ ((x1 = (90 : Int32)) → wX4_behind_6 post x0)
-- rank(II)I
def wX5_rank_24 (post : Int32 → Unit → Prop)  (s0 : Int32)  : Prop :=
  post s0 ()
def wX5_rank_23 (post : Int32 → Unit → Prop)    : Prop :=
  wX5_rank_24 post (1 : Int32)
def wX5_rank_19 (post : Int32 → Unit → Prop)    : Prop :=
  wX5_rank_24 post (0 : Int32)
def wX5_rank_14 (post : Int32 → Unit → Prop)  (x0 : Int32) (x1 : Int32)  : Prop :=
  ((x1 ≤ x0) → wX5_rank_23 post) ∧ ((¬ x1 ≤ x0) → wX5_rank_19 post)
def wX5_rank_10 (post : Int32 → Unit → Prop)  (x0 : Int32) (x1 : Int32)  : Prop :=
  ((x0 ≤ 0) → wX5_rank_23 post) ∧ ((¬ x0 ≤ 0) → wX5_rank_14 post x0 x1)
def wX5_rank_6 (post : Int32 → Unit → Prop)    : Prop :=
  wX5_rank_24 post (2 : Int32)
def wX5_rank_0 (post : Int32 → Unit → Prop)  (x0 : Int32) (x1 : Int32)  : Prop :=
  ((¬ x0 = (-x1)) → wX5_rank_10 post x0 x1) ∧ ((x0 = (-x1)) → wX5_rank_6 post)
