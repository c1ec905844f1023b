/-! WP PREDICATES of the reference's methods, printed by gen_model.py: one a block, loops by wloop -/
-- in(JII)Z
def wX3_in_19 (post : Int32 → Unit → Prop)  (s0 : Int32)  : Prop :=
  isB s0 ∧ post s0 ()
def wX3_in_18 (post : Int32 → Unit → Prop)    : Prop :=
  wX3_in_19 post (0 : Int32)
def wX3_in_14 (post : Int32 → Unit → Prop)    : Prop :=
  wX3_in_19 post (1 : Int32)
def wX3_in_7 (post : Int32 → Unit → Prop)  (x0 : Int64) (x3 : Int32)  : Prop :=
  ((0 < (lg_cmp x0 (x3.toInt64))) → wX3_in_18 post) ∧ ((¬ 0 < (lg_cmp x0 (x3.toInt64))) → wX3_in_14 post)
def wX3_in_0 (post : Int32 → Unit → Prop)  (x0 : Int64) (x2 : Int32) (x3 : Int32)  : Prop :=
  (((lg_cmp x0 (x2.toInt64)) < 0) → wX3_in_18 post) ∧ ((¬ (lg_cmp x0 (x2.toInt64)) < 0) → wX3_in_7 post x0 x3)
-- now()I
def wX3_now_0 (post : Int32 → MS → Prop)   (st : MS) : Prop :=
  vp_in (2 : Int32) 7003 ∧ vp_in ((3 : Int32) + (st.1 0 ((2 : Int32)).toNatClampNeg)) 7003 ∧ post (st.1 0 (((3 : Int32) + (st.1 0 ((2 : Int32)).toNatClampNeg))).toNatClampNeg) st
-- open(I)V
def wX3_open_42 (post : MS → Prop)   (st : MS) : Prop :=
  post st
def wX3_open_23 (post : MS → Prop) (L17 : Int32 → Int32 → MS → Prop) (x2 : Int32) (x3 : Int32) (st : MS) : Prop :=
  vp_in x3 9 ∧ L17 (x2 / (3 : Int32)) (x3 + (1 : Int32)) (mA st 7 (x3).toNatClampNeg (irm x2 (3 : Int32)))
def wX3_open_17_b (post : MS → Prop) (L17 : Int32 → Int32 → MS → Prop) (x2 : Int32) (x3 : Int32) (st : MS) : Prop :=
  (((9 : Int32) ≤ x3) → wX3_open_42 post st) ∧ ((¬ (9 : Int32) ≤ x3) → wX3_open_23 post L17 x2 x3 st)
def wX3_open_17 (post : MS → Prop)  (x2 : Int32) (x3 : Int32) (st : MS) : Prop :=
  wloop (V := Int32 × Int32 × MS) (fun L v => wX3_open_17_b post (fun x2 x3 st => L (x2, x3, st)) v.1 v.2.1 v.2.2) (x2, x3, st)
def wX3_open_0 (post : MS → Prop)  (x1 : Int32) (st : MS) : Prop :=
  wX3_open_17 post (irm x1 (19683 : Int32)) (0 : Int32) (mF st 3 (x1 / (19683 : Int32)))
-- three(III)Z
def wX3_three_49 (post : Int32 → MS → Prop)  (s0 : Int32) (st : MS) : Prop :=
  isB s0 ∧ post s0 st
def wX3_three_48 (post : Int32 → MS → Prop)   (st : MS) : Prop :=
  wX3_three_49 post (0 : Int32) st
def wX3_three_44 (post : Int32 → MS → Prop)   (st : MS) : Prop :=
  wX3_three_49 post (1 : Int32) st
def wX3_three_29 (post : Int32 → MS → Prop)  (x2 : Int32) (x3 : Int32) (x4 : Int32) (st : MS) : Prop :=
  vp_in (x2 + ((2 : Int32) * x3)) 9 ∧ ((¬ (st.1 7 ((x2 + ((2 : Int32) * x3))).toNatClampNeg) = x4) → wX3_three_48 post st) ∧ (((st.1 7 ((x2 + ((2 : Int32) * x3))).toNatClampNeg) = x4) → wX3_three_44 post st)
def wX3_three_16 (post : Int32 → MS → Prop)  (x2 : Int32) (x3 : Int32) (x4 : Int32) (st : MS) : Prop :=
  vp_in (x2 + x3) 9 ∧ ((¬ (st.1 7 ((x2 + x3)).toNatClampNeg) = x4) → wX3_three_48 post st) ∧ (((st.1 7 ((x2 + x3)).toNatClampNeg) = x4) → wX3_three_29 post x2 x3 x4 st)
def wX3_three_0 (post : Int32 → MS → Prop)  (x1 : Int32) (x2 : Int32) (x3 : Int32) (st : MS) : Prop :=
  vp_in x2 9 ∧ ((¬ (st.1 7 (x2).toNatClampNeg) = (x1 + (1 : Int32))) → wX3_three_48 post st) ∧ (((st.1 7 (x2).toNatClampNeg) = (x1 + (1 : Int32))) → wX3_three_16 post x2 x3 (x1 + (1 : Int32)) st)
-- hasLine(I)Z
def wX3_hasLine_72 (post : Int32 → MS → Prop)  (s0 : Int32) (st : MS) : Prop :=
  isB s0 ∧ post s0 st
def wX3_hasLine_71 (post : Int32 → MS → Prop)   (st : MS) : Prop :=
  wX3_hasLine_72 post (0 : Int32) st
def wX3_hasLine_67 (post : Int32 → MS → Prop)   (st : MS) : Prop :=
  wX3_hasLine_72 post (1 : Int32) st
def wX3_hasLine_57 (post : Int32 → MS → Prop)  (x1 : Int32) (st : MS) : Prop :=
  pX3_three x1 (2 : Int32) (2 : Int32) st ∧ ∀ r_1 : Int32, qX3_three x1 (2 : Int32) (2 : Int32) st r_1 → ((r_1 = 0) → wX3_hasLine_71 post st) ∧ ((¬ r_1 = 0) → wX3_hasLine_67 post st)
def wX3_hasLine_47 (post : Int32 → MS → Prop)  (x1 : Int32) (st : MS) : Prop :=
  pX3_three x1 (0 : Int32) (4 : Int32) st ∧ ∀ r_1 : Int32, qX3_three x1 (0 : Int32) (4 : Int32) st r_1 → ((¬ r_1 = 0) → wX3_hasLine_67 post st) ∧ ((r_1 = 0) → wX3_hasLine_57 post x1 st)
def wX3_hasLine_37 (post : Int32 → MS → Prop)  (x1 : Int32) (st : MS) : Prop :=
  vp_in (0 : Int32) 7003 ∧ ((¬ (st.1 0 ((0 : Int32)).toNatClampNeg) = (1 : Int32)) → wX3_hasLine_71 post st) ∧ (((st.1 0 ((0 : Int32)).toNatClampNeg) = (1 : Int32)) → wX3_hasLine_47 post x1 st)
def wX3_hasLine_29 (post : Int32 → MS → Prop)   (st : MS) : Prop :=
  isB (1 : Int32) ∧ post (1 : Int32) st
def wX3_hasLine_31 (post : Int32 → MS → Prop) (L2 : Int32 → Int32 → MS → Prop) (x1 : Int32) (x2 : Int32) (st : MS) : Prop :=
  L2 x1 (x2 + (1 : Int32)) st
def wX3_hasLine_19 (post : Int32 → MS → Prop) (L2 : Int32 → Int32 → MS → Prop) (x1 : Int32) (x2 : Int32) (st : MS) : Prop :=
  pX3_three x1 x2 (3 : Int32) st ∧ ∀ r_1 : Int32, qX3_three x1 x2 (3 : Int32) st r_1 → ((r_1 = 0) → wX3_hasLine_31 post L2 x1 x2 st) ∧ ((¬ r_1 = 0) → wX3_hasLine_29 post st)
def wX3_hasLine_7 (post : Int32 → MS → Prop) (L2 : Int32 → Int32 → MS → Prop) (x1 : Int32) (x2 : Int32) (st : MS) : Prop :=
  pX3_three x1 ((3 : Int32) * x2) (1 : Int32) st ∧ ∀ r_1 : Int32, qX3_three x1 ((3 : Int32) * x2) (1 : Int32) st r_1 → ((¬ r_1 = 0) → wX3_hasLine_29 post st) ∧ ((r_1 = 0) → wX3_hasLine_19 post L2 x1 x2 st)
def wX3_hasLine_2_b (post : Int32 → MS → Prop) (L2 : Int32 → Int32 → MS → Prop) (x1 : Int32) (x2 : Int32) (st : MS) : Prop :=
  (((3 : Int32) ≤ x2) → wX3_hasLine_37 post x1 st) ∧ ((¬ (3 : Int32) ≤ x2) → wX3_hasLine_7 post L2 x1 x2 st)
def wX3_hasLine_2 (post : Int32 → MS → Prop)  (x1 : Int32) (x2 : Int32) (st : MS) : Prop :=
  wloop (V := Int32 × Int32 × MS) (fun L v => wX3_hasLine_2_b post (fun x1 x2 st => L (x1, x2, st)) v.1 v.2.1 v.2.2) (x1, x2, st)
def wX3_hasLine_0 (post : Int32 → MS → Prop)  (x1 : Int32) (st : MS) : Prop :=
  wX3_hasLine_2 post x1 (0 : Int32) st
-- men(I)I
def wX3_men_36 (post : Int32 → MS → Prop)  (x2 : Int32) (st : MS) : Prop :=
  post x2 st
def wX3_men_28 (post : Int32 → MS → Prop) (L4 : Int32 → Int32 → Int32 → MS → Prop) (x1 : Int32) (x3 : Int32) (s0 : Int32) (s1 : Int32) (st : MS) : Prop :=
  L4 x1 (s0 + s1) (x3 + (1 : Int32)) st
def wX3_men_27 (post : Int32 → MS → Prop) (L4 : Int32 → Int32 → Int32 → MS → Prop) (x1 : Int32) (x3 : Int32) (s0 : Int32) (st : MS) : Prop :=
  wX3_men_28 post L4 x1 x3 s0 (0 : Int32) st
def wX3_men_23 (post : Int32 → MS → Prop) (L4 : Int32 → Int32 → Int32 → MS → Prop) (x1 : Int32) (x3 : Int32) (s0 : Int32) (st : MS) : Prop :=
  wX3_men_28 post L4 x1 x3 s0 (1 : Int32) st
def wX3_men_10 (post : Int32 → MS → Prop) (L4 : Int32 → Int32 → Int32 → MS → Prop) (x1 : Int32) (x2 : Int32) (x3 : Int32) (st : MS) : Prop :=
  vp_in x3 9 ∧ ((¬ (st.1 7 (x3).toNatClampNeg) = (x1 + (1 : Int32))) → wX3_men_27 post L4 x1 x3 x2 st) ∧ (((st.1 7 (x3).toNatClampNeg) = (x1 + (1 : Int32))) → wX3_men_23 post L4 x1 x3 x2 st)
def wX3_men_4_b (post : Int32 → MS → Prop) (L4 : Int32 → Int32 → Int32 → MS → Prop) (x1 : Int32) (x2 : Int32) (x3 : Int32) (st : MS) : Prop :=
  (((9 : Int32) ≤ x3) → wX3_men_36 post x2 st) ∧ ((¬ (9 : Int32) ≤ x3) → wX3_men_10 post L4 x1 x2 x3 st)
def wX3_men_4 (post : Int32 → MS → Prop)  (x1 : Int32) (x2 : Int32) (x3 : Int32) (st : MS) : Prop :=
  wloop (V := Int32 × Int32 × Int32 × MS) (fun L v => wX3_men_4_b post (fun x1 x2 x3 st => L (x1, x2, x3, st)) v.1 v.2.1 v.2.2.1 v.2.2.2) (x1, x2, x3, st)
def wX3_men_0 (post : Int32 → MS → Prop)  (x1 : Int32) (st : MS) : Prop :=
  wX3_men_4 post x1 (0 : Int32) (0 : Int32) st
-- areNeighbours(II)Z
def wX3_areNeighbours_65 (post : Int32 → MS → Prop)  (s0 : Int32) (st : MS) : Prop :=
  isB s0 ∧ post s0 st
def wX3_areNeighbours_60 (post : Int32 → MS → Prop)   (st : MS) : Prop :=
  wX3_areNeighbours_65 post (1 : Int32) st
def wX3_areNeighbours_64 (post : Int32 → MS → Prop)   (st : MS) : Prop :=
  wX3_areNeighbours_65 post (0 : Int32) st
def wX3_areNeighbours_55 (post : Int32 → MS → Prop)  (x2 : Int32) (st : MS) : Prop :=
  ((¬ x2 = (4 : Int32)) → wX3_areNeighbours_64 post st) ∧ ((x2 = (4 : Int32)) → wX3_areNeighbours_60 post st)
def wX3_areNeighbours_50 (post : Int32 → MS → Prop)  (x1 : Int32) (x2 : Int32) (st : MS) : Prop :=
  ((x1 = (4 : Int32)) → wX3_areNeighbours_60 post st) ∧ ((¬ x1 = (4 : Int32)) → wX3_areNeighbours_55 post x2 st)
def wX3_areNeighbours_40 (post : Int32 → MS → Prop)  (x1 : Int32) (x2 : Int32) (st : MS) : Prop :=
  vp_in (0 : Int32) 7003 ∧ ((¬ (st.1 0 ((0 : Int32)).toNatClampNeg) = (1 : Int32)) → wX3_areNeighbours_64 post st) ∧ (((st.1 0 ((0 : Int32)).toNatClampNeg) = (1 : Int32)) → wX3_areNeighbours_50 post x1 x2 st)
def wX3_areNeighbours_34 (post : Int32 → MS → Prop)  (x1 : Int32) (x2 : Int32) (x5 : Int32) (st : MS) : Prop :=
  ((¬ x5 = (2 : Int32)) → wX3_areNeighbours_64 post st) ∧ ((x5 = (2 : Int32)) → wX3_areNeighbours_40 post x1 x2 st)
def wX3_areNeighbours_0 (post : Int32 → MS → Prop)  (x1 : Int32) (x2 : Int32) (st : MS) : Prop :=
  ((((((x1 / (3 : Int32)) - (x2 / (3 : Int32))) * ((x1 / (3 : Int32)) - (x2 / (3 : Int32)))) + (((irm x1 (3 : Int32)) - (irm x2 (3 : Int32))) * ((irm x1 (3 : Int32)) - (irm x2 (3 : Int32))))) = (1 : Int32)) → wX3_areNeighbours_60 post st) ∧ ((¬ ((((x1 / (3 : Int32)) - (x2 / (3 : Int32))) * ((x1 / (3 : Int32)) - (x2 / (3 : Int32)))) + (((irm x1 (3 : Int32)) - (irm x2 (3 : Int32))) * ((irm x1 (3 : Int32)) - (irm x2 (3 : Int32))))) = (1 : Int32)) → wX3_areNeighbours_34 post x1 x2 ((((x1 / (3 : Int32)) - (x2 / (3 : Int32))) * ((x1 / (3 : Int32)) - (x2 / (3 : Int32)))) + (((irm x1 (3 : Int32)) - (irm x2 (3 : Int32))) * ((irm x1 (3 : Int32)) - (irm x2 (3 : Int32))))) st)
-- look()V
def wX3_look_193 (post : MS → Prop)   (st : MS) : Prop :=
  post st
def wX3_look_180 (post : MS → Prop)   (st : MS) : Prop :=
  vp_in (0 : Int32) 40 ∧ wX3_look_193 post (mF (mA st 8 ((0 : Int32)).toNatClampNeg (90 : Int32)) 4 (1 : Int32))
def wX3_look_170 (post : MS → Prop)   (st : MS) : Prop :=
  vp_in (1 : Int32) 7003 ∧ ((¬ (st.1 0 ((1 : Int32)).toNatClampNeg) = (1 : Int32)) → wX3_look_193 post st) ∧ (((st.1 0 ((1 : Int32)).toNatClampNeg) = (1 : Int32)) → wX3_look_180 post st)
def wX3_look_163 (post : MS → Prop)   (st : MS) : Prop :=
  ((¬ (st.2 4) = 0) → wX3_look_193 post st) ∧ (((st.2 4) = 0) → wX3_look_170 post st)
def wX3_look_157 (post : MS → Prop) (L39 : Int32 → Int32 → MS → Prop) (x1 : Int32) (x2 : Int32) (st : MS) : Prop :=
  L39 x1 (x2 + (1 : Int32)) st
def wX3_look_151 (post : MS → Prop) (L80 : Int32 → Int32 → Int32 → MS → Prop) (x1 : Int32) (x2 : Int32) (x3 : Int32) (st : MS) : Prop :=
  L80 x1 x2 (x3 + (1 : Int32)) st
def wX3_look_123 (post : MS → Prop) (L80 : Int32 → Int32 → Int32 → MS → Prop) (x1 : Int32) (x2 : Int32) (x3 : Int32) (st : MS) : Prop :=
  vp_in (st.2 4) 40 ∧ wX3_look_151 post L80 x1 x2 x3 (mF (mA st 8 ((st.2 4)).toNatClampNeg (((9 : Int32) + ((9 : Int32) * x2)) + x3)) 4 (((mA st 8 ((st.2 4)).toNatClampNeg (((9 : Int32) + ((9 : Int32) * x2)) + x3)).2 4) + (1 : Int32)))
def wX3_look_114 (post : MS → Prop) (L80 : Int32 → Int32 → Int32 → MS → Prop) (x1 : Int32) (x2 : Int32) (x3 : Int32) (st : MS) : Prop :=
  pX3_areNeighbours x2 x3 st ∧ ∀ r_1 : Int32, qX3_areNeighbours x2 x3 st r_1 → ((r_1 = 0) → wX3_look_151 post L80 x1 x2 x3 st) ∧ ((¬ r_1 = 0) → wX3_look_123 post L80 x1 x2 x3 st)
def wX3_look_105 (post : MS → Prop) (L80 : Int32 → Int32 → Int32 → MS → Prop) (x1 : Int32) (x2 : Int32) (x3 : Int32) (st : MS) : Prop :=
  vp_in x3 9 ∧ ((¬ (st.1 7 (x3).toNatClampNeg) = 0) → wX3_look_151 post L80 x1 x2 x3 st) ∧ (((st.1 7 (x3).toNatClampNeg) = 0) → wX3_look_114 post L80 x1 x2 x3 st)
def wX3_look_90 (post : MS → Prop) (L39 : Int32 → Int32 → MS → Prop) (L80 : Int32 → Int32 → Int32 → MS → Prop) (x1 : Int32) (x2 : Int32) (x3 : Int32) (st : MS) : Prop :=
  vp_in x2 9 ∧ ((¬ (st.1 7 (x2).toNatClampNeg) = ((st.2 3) + (1 : Int32))) → wX3_look_157 post L39 x1 x2 st) ∧ (((st.1 7 (x2).toNatClampNeg) = ((st.2 3) + (1 : Int32))) → wX3_look_105 post L80 x1 x2 x3 st)
def wX3_look_86 (post : MS → Prop) (L39 : Int32 → Int32 → MS → Prop) (L80 : Int32 → Int32 → Int32 → MS → Prop) (x1 : Int32) (x2 : Int32) (x3 : Int32) (st : MS) : Prop :=
  ((¬ x1 = 0) → wX3_look_157 post L39 x1 x2 st) ∧ ((x1 = 0) → wX3_look_90 post L39 L80 x1 x2 x3 st)
def wX3_look_80_b (post : MS → Prop) (L39 : Int32 → Int32 → MS → Prop) (L80 : Int32 → Int32 → Int32 → MS → Prop) (x1 : Int32) (x2 : Int32) (x3 : Int32) (st : MS) : Prop :=
  (((9 : Int32) ≤ x3) → wX3_look_157 post L39 x1 x2 st) ∧ ((¬ (9 : Int32) ≤ x3) → wX3_look_86 post L39 L80 x1 x2 x3 st)
def wX3_look_80 (post : MS → Prop) (L39 : Int32 → Int32 → MS → Prop) (x1 : Int32) (x2 : Int32) (x3 : Int32) (st : MS) : Prop :=
  wloop (V := Int32 × Int32 × Int32 × MS) (fun L v => wX3_look_80_b post L39 (fun x1 x2 x3 st => L (x1, x2, x3, st)) v.1 v.2.1 v.2.2.1 v.2.2.2) (x1, x2, x3, st)
def wX3_look_78 (post : MS → Prop) (L39 : Int32 → Int32 → MS → Prop) (x1 : Int32) (x2 : Int32) (st : MS) : Prop :=
  wX3_look_80 post L39 x1 x2 (0 : Int32) st
def wX3_look_58 (post : MS → Prop) (L39 : Int32 → Int32 → MS → Prop) (x1 : Int32) (x2 : Int32) (st : MS) : Prop :=
  vp_in (st.2 4) 40 ∧ wX3_look_78 post L39 x1 x2 (mF (mA st 8 ((st.2 4)).toNatClampNeg x2) 4 (((mA st 8 ((st.2 4)).toNatClampNeg x2).2 4) + (1 : Int32)))
def wX3_look_49 (post : MS → Prop) (L39 : Int32 → Int32 → MS → Prop) (x1 : Int32) (x2 : Int32) (st : MS) : Prop :=
  vp_in x2 9 ∧ ((¬ (st.1 7 (x2).toNatClampNeg) = 0) → wX3_look_78 post L39 x1 x2 st) ∧ (((st.1 7 (x2).toNatClampNeg) = 0) → wX3_look_58 post L39 x1 x2 st)
def wX3_look_45 (post : MS → Prop) (L39 : Int32 → Int32 → MS → Prop) (x1 : Int32) (x2 : Int32) (st : MS) : Prop :=
  ((x1 = 0) → wX3_look_78 post L39 x1 x2 st) ∧ ((¬ x1 = 0) → wX3_look_49 post L39 x1 x2 st)
def wX3_look_39_b (post : MS → Prop) (L39 : Int32 → Int32 → MS → Prop) (x1 : Int32) (x2 : Int32) (st : MS) : Prop :=
  (((9 : Int32) ≤ x2) → wX3_look_163 post st) ∧ ((¬ (9 : Int32) ≤ x2) → wX3_look_45 post L39 x1 x2 st)
def wX3_look_39 (post : MS → Prop)  (x1 : Int32) (x2 : Int32) (st : MS) : Prop :=
  wloop (V := Int32 × Int32 × MS) (fun L v => wX3_look_39_b post (fun x1 x2 st => L (x1, x2, st)) v.1 v.2.1 v.2.2) (x1, x2, st)
def wX3_look_36 (post : MS → Prop)  (s0 : Int32) (st : MS) : Prop :=
  wX3_look_39 post s0 (0 : Int32) st
def wX3_look_35 (post : MS → Prop)   (st : MS) : Prop :=
  wX3_look_36 post (0 : Int32) st
def wX3_look_31 (post : MS → Prop)   (st : MS) : Prop :=
  wX3_look_36 post (1 : Int32) st
def wX3_look_19 (post : MS → Prop)   (st : MS) : Prop :=
  pX3_men (st.2 3) st ∧ ∀ r_1 : Int32, qX3_men (st.2 3) st r_1 → (((3 : Int32) ≤ r_1) → wX3_look_35 post st) ∧ ((¬ (3 : Int32) ≤ r_1) → wX3_look_31 post st)
def wX3_look_18 (post : MS → Prop)   (st : MS) : Prop :=
  post st
def wX3_look_0 (post : MS → Prop)   (st : MS) : Prop :=
  pX3_hasLine ((1 : Int32) - ((mF st 4 (0 : Int32)).2 3)) (mF st 4 (0 : Int32)) ∧ ∀ r_1 : Int32, qX3_hasLine ((1 : Int32) - ((mF st 4 (0 : Int32)).2 3)) (mF st 4 (0 : Int32)) r_1 → ((r_1 = 0) → wX3_look_19 post (mF st 4 (0 : Int32))) ∧ ((¬ r_1 = 0) → wX3_look_18 post (mF st 4 (0 : Int32)))
-- code()I
def wX3_code_26 (post : Int32 → MS → Prop)  (x1 : Int32) (st : MS) : Prop :=
  post (x1 + ((19683 : Int32) * (st.2 3))) st
def wX3_code_9 (post : Int32 → MS → Prop) (L5 : Int32 → Int32 → MS → Prop) (x1 : Int32) (x2 : Int32) (st : MS) : Prop :=
  vp_in x2 9 ∧ L5 (((3 : Int32) * x1) + (st.1 7 (x2).toNatClampNeg)) (x2 + (-1 : Int32)) st
def wX3_code_5_b (post : Int32 → MS → Prop) (L5 : Int32 → Int32 → MS → Prop) (x1 : Int32) (x2 : Int32) (st : MS) : Prop :=
  ((x2 < 0) → wX3_code_26 post x1 st) ∧ ((¬ x2 < 0) → wX3_code_9 post L5 x1 x2 st)
def wX3_code_5 (post : Int32 → MS → Prop)  (x1 : Int32) (x2 : Int32) (st : MS) : Prop :=
  wloop (V := Int32 × Int32 × MS) (fun L v => wX3_code_5_b post (fun x1 x2 st => L (x1, x2, st)) v.1 v.2.1 v.2.2) (x1, x2, st)
def wX3_code_0 (post : Int32 → MS → Prop)   (st : MS) : Prop :=
  wX3_code_5 post (0 : Int32) (8 : Int32) st
-- next(I)I
def wX3_next_63 (post : Int32 → MS → Prop)  (x2 : Int32) (st : MS) : Prop :=
  pX3_code  (mF st 3 ((1 : Int32) - (st.2 3))) ∧ ∀ r_1 : Int32, qX3_code  (mF st 3 ((1 : Int32) - (st.2 3))) r_1 → pX3_open x2 (mF st 3 ((1 : Int32) - (st.2 3))) ∧ ∀ st_3 : MS, qX3_open x2 (mF st 3 ((1 : Int32) - (st.2 3))) st_3 → post r_1 st_3
def wX3_next_32 (post : Int32 → MS → Prop)  (x1 : Int32) (x2 : Int32) (st : MS) : Prop :=
  vp_in ((x1 - (9 : Int32)) / (9 : Int32)) 9 ∧ vp_in (irm (x1 - (9 : Int32)) (9 : Int32)) 9 ∧ wX3_next_63 post x2 (mA (mA st 7 (((x1 - (9 : Int32)) / (9 : Int32))).toNatClampNeg (0 : Int32)) 7 ((irm (x1 - (9 : Int32)) (9 : Int32))).toNatClampNeg (((mA st 7 (((x1 - (9 : Int32)) / (9 : Int32))).toNatClampNeg (0 : Int32)).2 3) + (1 : Int32)))
def wX3_next_26 (post : Int32 → MS → Prop)  (x1 : Int32) (x2 : Int32) (st : MS) : Prop :=
  (((90 : Int32) ≤ x1) → wX3_next_63 post x2 st) ∧ ((¬ (90 : Int32) ≤ x1) → wX3_next_32 post x1 x2 st)
def wX3_next_11 (post : Int32 → MS → Prop)  (x1 : Int32) (x2 : Int32) (st : MS) : Prop :=
  vp_in x1 9 ∧ wX3_next_63 post x2 (mA st 7 (x1).toNatClampNeg ((st.2 3) + (1 : Int32)))
def wX3_next_0 (post : Int32 → MS → Prop)  (x1 : Int32) (st : MS) : Prop :=
  pX3_code  st ∧ ∀ r_1 : Int32, qX3_code  st r_1 → (((9 : Int32) ≤ x1) → wX3_next_26 post x1 r_1 st) ∧ ((¬ (9 : Int32) ≤ x1) → wX3_next_11 post x1 r_1 st)
-- isLegal()Z
def wX3_isLegal_85 (post : Int32 → MS → Prop)  (s0 : Int32) (st : MS) : Prop :=
  isB s0 ∧ post s0 st
def wX3_isLegal_84 (post : Int32 → MS → Prop)   (st : MS) : Prop :=
  wX3_isLegal_85 post (0 : Int32) st
def wX3_isLegal_80 (post : Int32 → MS → Prop)   (st : MS) : Prop :=
  wX3_isLegal_85 post (1 : Int32) st
def wX3_isLegal_69 (post : Int32 → MS → Prop)   (st : MS) : Prop :=
  pX3_hasLine (st.2 3) st ∧ ∀ r_1 : Int32, qX3_hasLine (st.2 3) st r_1 → ((¬ r_1 = 0) → wX3_isLegal_84 post st) ∧ ((r_1 = 0) → wX3_isLegal_80 post st)
def wX3_isLegal_64 (post : Int32 → MS → Prop)  (s0 : Int32) (st : MS) : Prop :=
  ((s0 = 0) → wX3_isLegal_84 post st) ∧ ((¬ s0 = 0) → wX3_isLegal_69 post st)
def wX3_isLegal_63 (post : Int32 → MS → Prop)   (st : MS) : Prop :=
  wX3_isLegal_64 post (0 : Int32) st
def wX3_isLegal_59 (post : Int32 → MS → Prop)   (st : MS) : Prop :=
  wX3_isLegal_64 post (1 : Int32) st
def wX3_isLegal_54 (post : Int32 → MS → Prop)  (x2 : Int32) (st : MS) : Prop :=
  ((¬ x2 = (3 : Int32)) → wX3_isLegal_63 post st) ∧ ((x2 = (3 : Int32)) → wX3_isLegal_59 post st)
def wX3_isLegal_49 (post : Int32 → MS → Prop)  (x1 : Int32) (x2 : Int32) (st : MS) : Prop :=
  ((¬ x1 = (3 : Int32)) → wX3_isLegal_63 post st) ∧ ((x1 = (3 : Int32)) → wX3_isLegal_54 post x2 st)
def wX3_isLegal_41 (post : Int32 → MS → Prop)  (x1 : Int32) (x2 : Int32) (st : MS) : Prop :=
  (((st.2 3) = (1 : Int32)) → wX3_isLegal_59 post st) ∧ ((¬ (st.2 3) = (1 : Int32)) → wX3_isLegal_49 post x1 x2 st)
def wX3_isLegal_36 (post : Int32 → MS → Prop)  (x1 : Int32) (x2 : Int32) (st : MS) : Prop :=
  (((3 : Int32) < x1) → wX3_isLegal_49 post x1 x2 st) ∧ ((¬ (3 : Int32) < x1) → wX3_isLegal_41 post x1 x2 st)
def wX3_isLegal_29 (post : Int32 → MS → Prop)  (x1 : Int32) (x2 : Int32) (st : MS) : Prop :=
  ((¬ x1 = (x2 + (1 : Int32))) → wX3_isLegal_49 post x1 x2 st) ∧ ((x1 = (x2 + (1 : Int32))) → wX3_isLegal_36 post x1 x2 st)
def wX3_isLegal_22 (post : Int32 → MS → Prop)  (x1 : Int32) (x2 : Int32) (st : MS) : Prop :=
  (((st.2 3) = 0) → wX3_isLegal_59 post st) ∧ ((¬ (st.2 3) = 0) → wX3_isLegal_29 post x1 x2 st)
def wX3_isLegal_17 (post : Int32 → MS → Prop)  (x1 : Int32) (x2 : Int32) (st : MS) : Prop :=
  (((3 : Int32) ≤ x1) → wX3_isLegal_29 post x1 x2 st) ∧ ((¬ (3 : Int32) ≤ x1) → wX3_isLegal_22 post x1 x2 st)
def wX3_isLegal_0 (post : Int32 → MS → Prop)   (st : MS) : Prop :=
  pX3_men (0 : Int32) st ∧ ∀ r_1 : Int32, qX3_men (0 : Int32) st r_1 → pX3_men (1 : Int32) st ∧ ∀ r_3 : Int32, qX3_men (1 : Int32) st r_3 → ((¬ r_1 = r_3) → wX3_isLegal_29 post r_1 r_3 st) ∧ ((r_1 = r_3) → wX3_isLegal_17 post r_1 r_3 st)
