/-! WP PREDICATES of the reference's methods, printed by gen_model.py: one a block, loops by wloop -/
-- remember()V
def wX3_remember_27 (post : MS → Prop)   (st : MS) : Prop :=
  post st
def wX3_remember_9 (post : MS → Prop) (L2 : Int32 → MS → Prop) (x1 : Int32) (st : MS) : Prop :=
  vp_in x1 7003 ∧ vp_in x1 7003 ∧ L2 (x1 + (1 : Int32)) (mA st 2 (x1).toNatClampNeg (st.1 0 (x1).toNatClampNeg))
def wX3_remember_2_b (post : MS → Prop) (L2 : Int32 → MS → Prop) (x1 : Int32) (st : MS) : Prop :=
  (((7003 : Int32) ≤ x1) → wX3_remember_27 post st) ∧ ((¬ (7003 : Int32) ≤ x1) → wX3_remember_9 post L2 x1 st)
def wX3_remember_2 (post : MS → Prop)  (x1 : Int32) (st : MS) : Prop :=
  wloop (V := Int32 × MS) (fun L v => wX3_remember_2_b post (fun x1 st => L (x1, st)) v.1 v.2) (x1, st)
def wX3_remember_0 (post : MS → Prop)   (st : MS) : Prop :=
  wX3_remember_2 post (0 : Int32) st
-- record(I)I
def wX3_record_91 (post : Int32 → MS → Prop)  (x1 : Int32) (st : MS) : Prop :=
  post x1 (mF st 0 ((st.2 0) + (1 : Int32)))
def wX3_record_64 (post : Int32 → MS → Prop) (L57 : Int32 → Int32 → MS → Prop) (x1 : Int32) (x2 : Int32) (st : MS) : Prop :=
  vp_in x2 7003 ∧ vp_in (((7003 : Int32) * (st.2 0)) + x2) 42018 ∧ L57 x1 (x2 + (1 : Int32)) (mA st 1 ((((7003 : Int32) * (st.2 0)) + x2)).toNatClampNeg (st.1 2 (x2).toNatClampNeg))
def wX3_record_57_b (post : Int32 → MS → Prop) (L57 : Int32 → Int32 → MS → Prop) (x1 : Int32) (x2 : Int32) (st : MS) : Prop :=
  (((7003 : Int32) ≤ x2) → wX3_record_91 post x1 st) ∧ ((¬ (7003 : Int32) ≤ x2) → wX3_record_64 post L57 x1 x2 st)
def wX3_record_57 (post : Int32 → MS → Prop)  (x1 : Int32) (x2 : Int32) (st : MS) : Prop :=
  wloop (V := Int32 × Int32 × MS) (fun L v => wX3_record_57_b post (fun x1 x2 st => L (x1, x2, st)) v.1 v.2.1 v.2.2) (x1, x2, st)
def wX3_record_55 (post : Int32 → MS → Prop)  (x1 : Int32) (st : MS) : Prop :=
  wX3_record_57 post x1 (0 : Int32) st
def wX3_record_45 (post : Int32 → MS → Prop)  (x1 : Int32) (st : MS) : Prop :=
  wX3_record_55 post x1 (mF st 0 ((st.2 0) - (1 : Int32)))
def wX3_record_23 (post : Int32 → MS → Prop) (L17 : Int32 → Int32 → MS → Prop) (x1 : Int32) (x2 : Int32) (st : MS) : Prop :=
  vp_in ((7003 : Int32) + x2) 42018 ∧ vp_in x2 42018 ∧ L17 x1 (x2 + (1 : Int32)) (mA st 1 (x2).toNatClampNeg (st.1 1 (((7003 : Int32) + x2)).toNatClampNeg))
def wX3_record_17_b (post : Int32 → MS → Prop) (L17 : Int32 → Int32 → MS → Prop) (x1 : Int32) (x2 : Int32) (st : MS) : Prop :=
  (((35015 : Int32) ≤ x2) → wX3_record_45 post x1 st) ∧ ((¬ (35015 : Int32) ≤ x2) → wX3_record_23 post L17 x1 x2 st)
def wX3_record_17 (post : Int32 → MS → Prop)  (x1 : Int32) (x2 : Int32) (st : MS) : Prop :=
  wloop (V := Int32 × Int32 × MS) (fun L v => wX3_record_17_b post (fun x1 x2 st => L (x1, x2, st)) v.1 v.2.1 v.2.2) (x1, x2, st)
def wX3_record_15 (post : Int32 → MS → Prop)  (x1 : Int32) (st : MS) : Prop :=
  wX3_record_17 post x1 (0 : Int32) st
def wX3_record_6 (post : Int32 → MS → Prop)  (x1 : Int32) (st : MS) : Prop :=
  ((¬ (st.2 0) = (6 : Int32)) → wX3_record_55 post x1 st) ∧ (((st.2 0) = (6 : Int32)) → wX3_record_15 post x1 st)
def wX3_record_4 (post : Int32 → MS → Prop)  (x1 : Int32) (st : MS) : Prop :=
  post x1 st
def wX3_record_0 (post : Int32 → MS → Prop)  (x1 : Int32) (st : MS) : Prop :=
  ((0 ≤ x1) → wX3_record_6 post x1 st) ∧ ((¬ 0 ≤ x1) → wX3_record_4 post x1 st)
-- anew()V
def wX3_anew_22 (post : MS → Prop)   (st : MS) : Prop :=
  post st
def wX3_anew_9 (post : MS → Prop) (L2 : Int32 → MS → Prop) (x1 : Int32) (st : MS) : Prop :=
  vp_in x1 7003 ∧ L2 (x1 + (1 : Int32)) (mA st 0 (x1).toNatClampNeg (0 : Int32))
def wX3_anew_2_b (post : MS → Prop) (L2 : Int32 → MS → Prop) (x1 : Int32) (st : MS) : Prop :=
  (((7003 : Int32) ≤ x1) → wX3_anew_22 post st) ∧ ((¬ (7003 : Int32) ≤ x1) → wX3_anew_9 post L2 x1 st)
def wX3_anew_2 (post : MS → Prop)  (x1 : Int32) (st : MS) : Prop :=
  wloop (V := Int32 × MS) (fun L v => wX3_anew_2_b post (fun x1 st => L (x1, st)) v.1 v.2) (x1, st)
def wX3_anew_0 (post : MS → Prop)   (st : MS) : Prop :=
  wX3_anew_2 post (2 : Int32) st
-- hasLost()Z
def wX3_hasLost_24 (post : Int32 → MS → Prop)  (s0 : Int32) (st : MS) : Prop :=
  isB s0 ∧ post s0 st
def wX3_hasLost_23 (post : Int32 → MS → Prop)   (st : MS) : Prop :=
  wX3_hasLost_24 post (0 : Int32) st
def wX3_hasLost_19 (post : Int32 → MS → Prop)   (st : MS) : Prop :=
  wX3_hasLost_24 post (1 : Int32) st
def wX3_hasLost_0 (post : Int32 → MS → Prop)   (st : MS) : Prop :=
  pX3_now  st ∧ ∀ r_1 : Int32, qX3_now  st r_1 → pX3_open r_1 st ∧ ∀ st_3 : MS, qX3_open r_1 st st_3 → pX3_look  st_3 ∧ ∀ st_4 : MS, qX3_look  st_3 st_4 → ((¬ (st_4.2 4) = 0) → wX3_hasLost_23 post st_4) ∧ (((st_4.2 4) = 0) → wX3_hasLost_19 post st_4)
-- often()I
def wX3_often_43 (post : Int32 → MS → Prop)  (x1 : Int32) (st : MS) : Prop :=
  post x1 st
def wX3_often_35 (post : Int32 → MS → Prop) (L4 : Int32 → Int32 → MS → Prop) (x2 : Int32) (s0 : Int32) (s1 : Int32) (st : MS) : Prop :=
  L4 (s0 + s1) (x2 + (1 : Int32)) st
def wX3_often_34 (post : Int32 → MS → Prop) (L4 : Int32 → Int32 → MS → Prop) (x2 : Int32) (s0 : Int32) (st : MS) : Prop :=
  wX3_often_35 post L4 x2 s0 (0 : Int32) st
def wX3_often_30 (post : Int32 → MS → Prop) (L4 : Int32 → Int32 → MS → Prop) (x2 : Int32) (s0 : Int32) (st : MS) : Prop :=
  wX3_often_35 post L4 x2 s0 (1 : Int32) st
def wX3_often_14 (post : Int32 → MS → Prop) (L4 : Int32 → Int32 → MS → Prop) (x1 : Int32) (x2 : Int32) (st : MS) : Prop :=
  vp_in ((3 : Int32) + x2) 7003 ∧ pX3_now  st ∧ ∀ r_1 : Int32, qX3_now  st r_1 → ((¬ (st.1 0 (((3 : Int32) + x2)).toNatClampNeg) = r_1) → wX3_often_34 post L4 x2 x1 st) ∧ (((st.1 0 (((3 : Int32) + x2)).toNatClampNeg) = r_1) → wX3_often_30 post L4 x2 x1 st)
def wX3_often_4_b (post : Int32 → MS → Prop) (L4 : Int32 → Int32 → MS → Prop) (x1 : Int32) (x2 : Int32) (st : MS) : Prop :=
  vp_in (2 : Int32) 7003 ∧ (((st.1 0 ((2 : Int32)).toNatClampNeg) < x2) → wX3_often_43 post x1 st) ∧ ((¬ (st.1 0 ((2 : Int32)).toNatClampNeg) < x2) → wX3_often_14 post L4 x1 x2 st)
def wX3_often_4 (post : Int32 → MS → Prop)  (x1 : Int32) (x2 : Int32) (st : MS) : Prop :=
  wloop (V := Int32 × Int32 × MS) (fun L v => wX3_often_4_b post (fun x1 x2 st => L (x1, x2, st)) v.1 v.2.1 v.2.2) (x1, x2, st)
def wX3_often_0 (post : Int32 → MS → Prop)   (st : MS) : Prop :=
  wX3_often_4 post (0 : Int32) (0 : Int32) st
-- isOver()Z
def wX3_isOver_20 (post : Int32 → MS → Prop)  (s0 : Int32) (st : MS) : Prop :=
  isB s0 ∧ post s0 st
def wX3_isOver_15 (post : Int32 → MS → Prop)   (st : MS) : Prop :=
  wX3_isOver_20 post (1 : Int32) st
def wX3_isOver_19 (post : Int32 → MS → Prop)   (st : MS) : Prop :=
  wX3_isOver_20 post (0 : Int32) st
def wX3_isOver_7 (post : Int32 → MS → Prop)   (st : MS) : Prop :=
  pX3_often  st ∧ ∀ r_1 : Int32, qX3_often  st r_1 → ((r_1 < (3 : Int32)) → wX3_isOver_19 post st) ∧ ((¬ r_1 < (3 : Int32)) → wX3_isOver_15 post st)
def wX3_isOver_0 (post : Int32 → MS → Prop)   (st : MS) : Prop :=
  pX3_hasLost  st ∧ ∀ (r_1 : Int32) (st_2 : MS), qX3_hasLost  st r_1 st_2 → ((¬ r_1 = 0) → wX3_isOver_15 post st_2) ∧ ((r_1 = 0) → wX3_isOver_7 post st_2)
-- lookNow()V
def wX3_lookNow_30 (post : MS → Prop)  (s1 : Int32) (st : MS) : Prop :=
  post (mF st 4 s1)
def wX3_lookNow_26 (post : MS → Prop)   (st : MS) : Prop :=
  wX3_lookNow_30 post (st.2 4) st
def wX3_lookNow_22 (post : MS → Prop)   (st : MS) : Prop :=
  wX3_lookNow_30 post (0 : Int32) st
def wX3_lookNow_0 (post : MS → Prop)   (st : MS) : Prop :=
  pX3_isOver  st ∧ ∀ (r_1 : Int32) (st_2 : MS), qX3_isOver  st r_1 st_2 → pX3_now  st_2 ∧ ∀ r_3 : Int32, qX3_now  st_2 r_3 → pX3_open r_3 st_2 ∧ ∀ st_5 : MS, qX3_open r_3 st_2 st_5 → pX3_look  st_5 ∧ ∀ st_6 : MS, qX3_look  st_5 st_6 → ((r_1 = 0) → wX3_lookNow_26 post st_6) ∧ ((¬ r_1 = 0) → wX3_lookNow_22 post st_6)
-- isMove(I)Z
def wX3_isMove_32 (post : Int32 → MS → Prop)   (st : MS) : Prop :=
  isB (0 : Int32) ∧ post (0 : Int32) st
def wX3_isMove_26 (post : Int32 → MS → Prop) (L6 : Int32 → Int32 → MS → Prop) (x1 : Int32) (x2 : Int32) (st : MS) : Prop :=
  L6 x1 (x2 + (1 : Int32)) st
def wX3_isMove_24 (post : Int32 → MS → Prop)   (st : MS) : Prop :=
  isB (1 : Int32) ∧ post (1 : Int32) st
def wX3_isMove_14 (post : Int32 → MS → Prop) (L6 : Int32 → Int32 → MS → Prop) (x1 : Int32) (x2 : Int32) (st : MS) : Prop :=
  vp_in x2 40 ∧ ((¬ (st.1 8 (x2).toNatClampNeg) = x1) → wX3_isMove_26 post L6 x1 x2 st) ∧ (((st.1 8 (x2).toNatClampNeg) = x1) → wX3_isMove_24 post st)
def wX3_isMove_6_b (post : Int32 → MS → Prop) (L6 : Int32 → Int32 → MS → Prop) (x1 : Int32) (x2 : Int32) (st : MS) : Prop :=
  (((st.2 4) ≤ x2) → wX3_isMove_32 post st) ∧ ((¬ (st.2 4) ≤ x2) → wX3_isMove_14 post L6 x1 x2 st)
def wX3_isMove_6 (post : Int32 → MS → Prop)  (x1 : Int32) (x2 : Int32) (st : MS) : Prop :=
  wloop (V := Int32 × Int32 × MS) (fun L v => wX3_isMove_6_b post (fun x1 x2 st => L (x1, x2, st)) v.1 v.2.1 v.2.2) (x1, x2, st)
def wX3_isMove_0 (post : Int32 → MS → Prop)  (x1 : Int32) (st : MS) : Prop :=
  pX3_lookNow  st ∧ ∀ st_1 : MS, qX3_lookNow  st st_1 → wX3_isMove_6 post x1 (0 : Int32) st_1
-- goes(I)V
def wX3_goes_0 (post : MS → Prop)  (x1 : Int32) (st : MS) : Prop :=
  pX3_now  st ∧ ∀ r_1 : Int32, qX3_now  st r_1 → pX3_open r_1 st ∧ ∀ st_3 : MS, qX3_open r_1 st st_3 → pX3_next x1 st_3 ∧ ∀ (r_4 : Int32) (st_5 : MS), qX3_next x1 st_3 r_4 st_5 → vp_in (2 : Int32) 7003 ∧ vp_in (2 : Int32) 7003 ∧ vp_in (2 : Int32) 7003 ∧ vp_in ((3 : Int32) + ((mA st_5 0 ((2 : Int32)).toNatClampNeg ((st_5.1 0 ((2 : Int32)).toNatClampNeg) + (1 : Int32))).1 0 ((2 : Int32)).toNatClampNeg)) 7003 ∧ post (mA (mA st_5 0 ((2 : Int32)).toNatClampNeg ((st_5.1 0 ((2 : Int32)).toNatClampNeg) + (1 : Int32))) 0 (((3 : Int32) + ((mA st_5 0 ((2 : Int32)).toNatClampNeg ((st_5.1 0 ((2 : Int32)).toNatClampNeg) + (1 : Int32))).1 0 ((2 : Int32)).toNatClampNeg))).toNatClampNeg r_4)
-- moves(IZ)I
def wX3_moves_49 (post : Int32 → MS → Prop)  (s0 : Int32) (st : MS) : Prop :=
  post s0 st
def wX3_moves_45 (post : Int32 → MS → Prop)   (st : MS) : Prop :=
  wX3_moves_49 post (st.2 3) st
def wX3_moves_37 (post : Int32 → MS → Prop)  (x3 : Int32) (st : MS) : Prop :=
  pX3_men x3 st ∧ ∀ r_1 : Int32, qX3_men x3 st r_1 → wX3_moves_49 post r_1 st
def wX3_moves_11 (post : Int32 → MS → Prop)  (x1 : Int32) (x2 : Int32) (st : MS) : Prop :=
  pX3_now  st ∧ ∀ r_1 : Int32, qX3_now  st r_1 → pX3_goes x1 st ∧ ∀ st_3 : MS, qX3_goes x1 st st_3 → pX3_now  st_3 ∧ ∀ r_4 : Int32, qX3_now  st_3 r_4 → pX3_open r_4 st_3 ∧ ∀ st_6 : MS, qX3_open r_4 st_3 st_6 → ((x2 = 0) → wX3_moves_45 post st_6) ∧ ((¬ x2 = 0) → wX3_moves_37 post (r_1 / (19683 : Int32)) st_6)
def wX3_moves_8 (post : Int32 → MS → Prop)   (st : MS) : Prop :=
  post (-5 : Int32) st
def wX3_moves_0 (post : Int32 → MS → Prop)  (x1 : Int32) (x2 : Int32) (st : MS) : Prop :=
  pX3_isMove x1 st ∧ ∀ (r_1 : Int32) (st_2 : MS), qX3_isMove x1 st r_1 st_2 → ((¬ r_1 = 0) → wX3_moves_11 post x1 x2 st_2) ∧ ((r_1 = 0) → wX3_moves_8 post st_2)
-- places(I)I
def wX3_places_21 (post : Int32 → MS → Prop)  (s0 : Int32) (st : MS) : Prop :=
  post s0 st
def wX3_places_20 (post : Int32 → MS → Prop)   (st : MS) : Prop :=
  wX3_places_21 post (-1 : Int32) st
def wX3_places_11 (post : Int32 → MS → Prop)  (x1 : Int32) (st : MS) : Prop :=
  pX3_moves x1 (1 : Int32) st ∧ ∀ (r_1 : Int32) (st_2 : MS), qX3_moves x1 (1 : Int32) st r_1 st_2 → wX3_places_21 post r_1 st_2
def wX3_places_0 (post : Int32 → MS → Prop)  (x1 : Int32) (st : MS) : Prop :=
  ∀ r_1 : Int32, qX3_in (x1.toInt64) (0 : Int32) (8 : Int32) r_1 → ((r_1 = 0) → wX3_places_20 post st) ∧ ((¬ r_1 = 0) → wX3_places_11 post x1 st)
-- slides(II)I
def wX3_slides_40 (post : Int32 → MS → Prop)  (s0 : Int32) (st : MS) : Prop :=
  post s0 st
def wX3_slides_39 (post : Int32 → MS → Prop)   (st : MS) : Prop :=
  wX3_slides_40 post (-1 : Int32) st
def wX3_slides_22 (post : Int32 → MS → Prop)  (x1 : Int32) (x2 : Int32) (st : MS) : Prop :=
  pX3_moves (((9 : Int32) + ((9 : Int32) * x1)) + x2) (0 : Int32) st ∧ ∀ (r_1 : Int32) (st_2 : MS), qX3_moves (((9 : Int32) + ((9 : Int32) * x1)) + x2) (0 : Int32) st r_1 st_2 → wX3_slides_40 post r_1 st_2
def wX3_slides_11 (post : Int32 → MS → Prop)  (x1 : Int32) (x2 : Int32) (st : MS) : Prop :=
  ∀ r_1 : Int32, qX3_in (x2.toInt64) (0 : Int32) (8 : Int32) r_1 → ((r_1 = 0) → wX3_slides_39 post st) ∧ ((¬ r_1 = 0) → wX3_slides_22 post x1 x2 st)
def wX3_slides_0 (post : Int32 → MS → Prop)  (x1 : Int32) (x2 : Int32) (st : MS) : Prop :=
  ∀ r_1 : Int32, qX3_in (x1.toInt64) (0 : Int32) (8 : Int32) r_1 → ((r_1 = 0) → wX3_slides_39 post st) ∧ ((¬ r_1 = 0) → wX3_slides_11 post x1 x2 st)
-- bestMove()I
def wX3_bestMove_82 (post : Int32 → MS → Prop)   (st : MS) : Prop :=
  post (-5 : Int32) st
def wX3_bestMove_76 (post : Int32 → MS → Prop) (L37 : Int32 → Int32 → MS → Prop) (x2 : Int32) (x3 : Int32) (st : MS) : Prop :=
  L37 x2 (x3 + (1 : Int32)) st
def wX3_bestMove_69 (post : Int32 → MS → Prop)  (x3 : Int32) (st : MS) : Prop :=
  vp_in x3 40 ∧ post (st.1 8 (x3).toNatClampNeg) st
def wX3_bestMove_45 (post : Int32 → MS → Prop) (L37 : Int32 → Int32 → MS → Prop) (x2 : Int32) (x3 : Int32) (st : MS) : Prop :=
  pX3_table  st ∧ ∀ (r_1 : Int32) (st_2 : MS), qX3_table  st r_1 st_2 → vp_in x3 40 ∧ pX3_next (st_2.1 8 (x3).toNatClampNeg) st_2 ∧ ∀ (r_3 : Int32) (st_4 : MS), qX3_next (st_2.1 8 (x3).toNatClampNeg) st_2 r_3 st_4 → vp_in (r_1 + r_3) 157464 ∧ ((¬ (st_4.1 9 ((r_1 + r_3)).toNatClampNeg) = x2) → wX3_bestMove_76 post L37 x2 x3 st_4) ∧ (((st_4.1 9 ((r_1 + r_3)).toNatClampNeg) = x2) → wX3_bestMove_69 post x3 st_4)
def wX3_bestMove_37_b (post : Int32 → MS → Prop) (L37 : Int32 → Int32 → MS → Prop) (x2 : Int32) (x3 : Int32) (st : MS) : Prop :=
  (((st.2 4) ≤ x3) → wX3_bestMove_82 post st) ∧ ((¬ (st.2 4) ≤ x3) → wX3_bestMove_45 post L37 x2 x3 st)
def wX3_bestMove_37 (post : Int32 → MS → Prop)  (x2 : Int32) (x3 : Int32) (st : MS) : Prop :=
  wloop (V := Int32 × Int32 × MS) (fun L v => wX3_bestMove_37_b post (fun x2 x3 st => L (x2, x3, st)) v.1 v.2.1 v.2.2) (x2, x3, st)
def wX3_bestMove_30 (post : Int32 → MS → Prop)  (s0 : Int32) (st : MS) : Prop :=
  pX3_lookNow  st ∧ ∀ st_1 : MS, qX3_lookNow  st st_1 → wX3_bestMove_37 post s0 (0 : Int32) st_1
def wX3_bestMove_26 (post : Int32 → MS → Prop)  (x1 : Int32) (st : MS) : Prop :=
  wX3_bestMove_30 post ((-2 : Int32) - x1) st
def wX3_bestMove_21 (post : Int32 → MS → Prop)  (x1 : Int32) (st : MS) : Prop :=
  wX3_bestMove_30 post (-x1) st
def wX3_bestMove_17 (post : Int32 → MS → Prop)  (x1 : Int32) (st : MS) : Prop :=
  ((x1 ≤ 0) → wX3_bestMove_26 post x1 st) ∧ ((¬ x1 ≤ 0) → wX3_bestMove_21 post x1 st)
def wX3_bestMove_13 (post : Int32 → MS → Prop)   (st : MS) : Prop :=
  wX3_bestMove_30 post (0 : Int32) st
def wX3_bestMove_0 (post : Int32 → MS → Prop)   (st : MS) : Prop :=
  pX3_now  st ∧ ∀ r_1 : Int32, qX3_now  st r_1 → pX3_worthAt r_1 st ∧ ∀ (r_3 : Int32) (st_4 : MS), qX3_worthAt r_1 st r_3 st_4 → ((¬ r_3 = 0) → wX3_bestMove_17 post r_3 st_4) ∧ ((r_3 = 0) → wX3_bestMove_13 post st_4)
-- plays(I)I
def wX3_plays_52 (post : Int32 → MS → Prop)  (x2 : Int32) (st : MS) : Prop :=
  post x2 st
def wX3_plays_38 (post : Int32 → MS → Prop) (L26 : Int32 → Int32 → MS → Prop) (x1 : Int32) (x2 : Int32) (st : MS) : Prop :=
  pX3_bestMove  st ∧ ∀ (r_1 : Int32) (st_2 : MS), qX3_bestMove  st r_1 st_2 → pX3_goes r_1 st_2 ∧ ∀ st_3 : MS, qX3_goes r_1 st_2 st_3 → L26 x1 (x2 + (1 : Int32)) st_3
def wX3_plays_31 (post : Int32 → MS → Prop) (L26 : Int32 → Int32 → MS → Prop) (x1 : Int32) (x2 : Int32) (st : MS) : Prop :=
  pX3_isOver  st ∧ ∀ (r_1 : Int32) (st_2 : MS), qX3_isOver  st r_1 st_2 → ((¬ r_1 = 0) → wX3_plays_52 post x2 st_2) ∧ ((r_1 = 0) → wX3_plays_38 post L26 x1 x2 st_2)
def wX3_plays_26_b (post : Int32 → MS → Prop) (L26 : Int32 → Int32 → MS → Prop) (x1 : Int32) (x2 : Int32) (st : MS) : Prop :=
  ((x1 ≤ x2) → wX3_plays_52 post x2 st) ∧ ((¬ x1 ≤ x2) → wX3_plays_31 post L26 x1 x2 st)
def wX3_plays_26 (post : Int32 → MS → Prop)  (x1 : Int32) (x2 : Int32) (st : MS) : Prop :=
  wloop (V := Int32 × Int32 × MS) (fun L v => wX3_plays_26_b post (fun x1 x2 st => L (x1, x2, st)) v.1 v.2.1 v.2.2) (x1, x2, st)
def wX3_plays_24 (post : Int32 → MS → Prop)  (x1 : Int32) (st : MS) : Prop :=
  wX3_plays_26 post x1 (0 : Int32) st
def wX3_plays_21 (post : Int32 → MS → Prop)   (st : MS) : Prop :=
  post (-5 : Int32) st
def wX3_plays_14 (post : Int32 → MS → Prop)  (x1 : Int32) (st : MS) : Prop :=
  pX3_isOver  st ∧ ∀ (r_1 : Int32) (st_2 : MS), qX3_isOver  st r_1 st_2 → ((r_1 = 0) → wX3_plays_24 post x1 st_2) ∧ ((¬ r_1 = 0) → wX3_plays_21 post st_2)
def wX3_plays_11 (post : Int32 → MS → Prop)   (st : MS) : Prop :=
  post (-2 : Int32) st
def wX3_plays_0 (post : Int32 → MS → Prop)  (x1 : Int32) (st : MS) : Prop :=
  ∀ r_1 : Int32, qX3_in (x1.toInt64) (1 : Int32) (60 : Int32) r_1 → ((¬ r_1 = 0) → wX3_plays_14 post x1 st) ∧ ((r_1 = 0) → wX3_plays_11 post st)
-- isDrawn()Z
def wX3_isDrawn_20 (post : Int32 → MS → Prop)  (s0 : Int32) (st : MS) : Prop :=
  isB s0 ∧ post s0 st
def wX3_isDrawn_19 (post : Int32 → MS → Prop)   (st : MS) : Prop :=
  wX3_isDrawn_20 post (0 : Int32) st
def wX3_isDrawn_15 (post : Int32 → MS → Prop)   (st : MS) : Prop :=
  wX3_isDrawn_20 post (1 : Int32) st
def wX3_isDrawn_8 (post : Int32 → MS → Prop)   (st : MS) : Prop :=
  pX3_hasLost  st ∧ ∀ (r_1 : Int32) (st_2 : MS), qX3_hasLost  st r_1 st_2 → ((¬ r_1 = 0) → wX3_isDrawn_19 post st_2) ∧ ((r_1 = 0) → wX3_isDrawn_15 post st_2)
def wX3_isDrawn_0 (post : Int32 → MS → Prop)   (st : MS) : Prop :=
  pX3_often  st ∧ ∀ r_1 : Int32, qX3_often  st r_1 → ((r_1 < (3 : Int32)) → wX3_isDrawn_19 post st) ∧ ((¬ r_1 < (3 : Int32)) → wX3_isDrawn_8 post st)
