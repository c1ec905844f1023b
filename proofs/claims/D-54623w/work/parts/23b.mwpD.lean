/-! WP PREDICATES of the reference's methods, printed by gen_model.py: one a block, loops by wloop -/
-- undo()I
def wX3_undo_56 (post : Int32 → MS → Prop)   (st : MS) : Prop :=
  post (st.2 0) st
def wX3_undo_29 (post : Int32 → MS → Prop) (L22 : Int32 → MS → Prop) (x1 : Int32) (st : MS) : Prop :=
  vp_in (((7003 : Int32) * (st.2 0)) + x1) 42018 ∧ vp_in x1 7003 ∧ L22 (x1 + (1 : Int32)) (mA st 0 (x1).toNatClampNeg (st.1 1 ((((7003 : Int32) * (st.2 0)) + x1)).toNatClampNeg))
def wX3_undo_22_b (post : Int32 → MS → Prop) (L22 : Int32 → MS → Prop) (x1 : Int32) (st : MS) : Prop :=
  (((7003 : Int32) ≤ x1) → wX3_undo_56 post st) ∧ ((¬ (7003 : Int32) ≤ x1) → wX3_undo_29 post L22 x1 st)
def wX3_undo_22 (post : Int32 → MS → Prop)  (x1 : Int32) (st : MS) : Prop :=
  wloop (V := Int32 × MS) (fun L v => wX3_undo_22_b post (fun x1 st => L (x1, st)) v.1 v.2) (x1, st)
def wX3_undo_10 (post : Int32 → MS → Prop)   (st : MS) : Prop :=
  wX3_undo_22 post (0 : Int32) (mF st 0 ((st.2 0) - (1 : Int32)))
def wX3_undo_7 (post : Int32 → MS → Prop)   (st : MS) : Prop :=
  post (-5 : Int32) st
def wX3_undo_0 (post : Int32 → MS → Prop)   (st : MS) : Prop :=
  ((¬ (st.2 0) = 0) → wX3_undo_10 post st) ∧ (((st.2 0) = 0) → wX3_undo_7 post st)
-- save(I)I
def wX3_save_46 (post : Int32 → MS → Prop)  (x1 : Int32) (st : MS) : Prop :=
  vp_in x1 2 ∧ vp_in (2 : Int32) 7003 ∧ post ((mA st 4 (x1).toNatClampNeg (vp_nar .boolean (1 : Int32))).1 0 ((2 : Int32)).toNatClampNeg) (mA st 4 (x1).toNatClampNeg (vp_nar .boolean (1 : Int32)))
def wX3_save_22 (post : Int32 → MS → Prop) (L15 : Int32 → Int32 → MS → Prop) (x1 : Int32) (x2 : Int32) (st : MS) : Prop :=
  vp_in x2 7003 ∧ vp_in (((7003 : Int32) * x1) + x2) 14006 ∧ L15 x1 (x2 + (1 : Int32)) (mA st 3 ((((7003 : Int32) * x1) + x2)).toNatClampNeg (st.1 0 (x2).toNatClampNeg))
def wX3_save_15_b (post : Int32 → MS → Prop) (L15 : Int32 → Int32 → MS → Prop) (x1 : Int32) (x2 : Int32) (st : MS) : Prop :=
  (((7003 : Int32) ≤ x2) → wX3_save_46 post x1 st) ∧ ((¬ (7003 : Int32) ≤ x2) → wX3_save_22 post L15 x1 x2 st)
def wX3_save_15 (post : Int32 → MS → Prop)  (x1 : Int32) (x2 : Int32) (st : MS) : Prop :=
  wloop (V := Int32 × Int32 × MS) (fun L v => wX3_save_15_b post (fun x1 x2 st => L (x1, x2, st)) v.1 v.2.1 v.2.2) (x1, x2, st)
def wX3_save_13 (post : Int32 → MS → Prop)  (x1 : Int32) (st : MS) : Prop :=
  wX3_save_15 post x1 (0 : Int32) st
def wX3_save_10 (post : Int32 → MS → Prop)   (st : MS) : Prop :=
  post (-2 : Int32) st
def wX3_save_0 (post : Int32 → MS → Prop)  (x1 : Int32) (st : MS) : Prop :=
  ∀ r_1 : Int32, qX3_in (x1.toInt64) (0 : Int32) (1 : Int32) r_1 → ((¬ r_1 = 0) → wX3_save_13 post x1 st) ∧ ((r_1 = 0) → wX3_save_10 post st)
-- restore(I)I
def wX3_restore_62 (post : Int32 → MS → Prop)   (st : MS) : Prop :=
  vp_in (2 : Int32) 7003 ∧ pX3_record (st.1 0 ((2 : Int32)).toNatClampNeg) st ∧ ∀ (r_1 : Int32) (st_2 : MS), qX3_record (st.1 0 ((2 : Int32)).toNatClampNeg) st r_1 st_2 → post r_1 st_2
def wX3_restore_38 (post : Int32 → MS → Prop) (L31 : Int32 → Int32 → MS → Prop) (x1 : Int32) (x2 : Int32) (st : MS) : Prop :=
  vp_in (((7003 : Int32) * x1) + x2) 14006 ∧ vp_in x2 7003 ∧ L31 x1 (x2 + (1 : Int32)) (mA st 0 (x2).toNatClampNeg (st.1 3 ((((7003 : Int32) * x1) + x2)).toNatClampNeg))
def wX3_restore_31_b (post : Int32 → MS → Prop) (L31 : Int32 → Int32 → MS → Prop) (x1 : Int32) (x2 : Int32) (st : MS) : Prop :=
  (((7003 : Int32) ≤ x2) → wX3_restore_62 post st) ∧ ((¬ (7003 : Int32) ≤ x2) → wX3_restore_38 post L31 x1 x2 st)
def wX3_restore_31 (post : Int32 → MS → Prop)  (x1 : Int32) (x2 : Int32) (st : MS) : Prop :=
  wloop (V := Int32 × Int32 × MS) (fun L v => wX3_restore_31_b post (fun x1 x2 st => L (x1, x2, st)) v.1 v.2.1 v.2.2) (x1, x2, st)
def wX3_restore_25 (post : Int32 → MS → Prop)  (x1 : Int32) (st : MS) : Prop :=
  pX3_remember  st ∧ ∀ st_1 : MS, qX3_remember  st st_1 → wX3_restore_31 post x1 (0 : Int32) st_1
def wX3_restore_22 (post : Int32 → MS → Prop)   (st : MS) : Prop :=
  post (-5 : Int32) st
def wX3_restore_13 (post : Int32 → MS → Prop)  (x1 : Int32) (st : MS) : Prop :=
  vp_in x1 2 ∧ ((¬ (st.1 4 (x1).toNatClampNeg) = 0) → wX3_restore_25 post x1 st) ∧ (((st.1 4 (x1).toNatClampNeg) = 0) → wX3_restore_22 post st)
def wX3_restore_10 (post : Int32 → MS → Prop)   (st : MS) : Prop :=
  post (-2 : Int32) st
def wX3_restore_0 (post : Int32 → MS → Prop)  (x1 : Int32) (st : MS) : Prop :=
  ∀ r_1 : Int32, qX3_in (x1.toInt64) (0 : Int32) (1 : Int32) r_1 → ((¬ r_1 = 0) → wX3_restore_13 post x1 st) ∧ ((r_1 = 0) → wX3_restore_10 post st)
-- set(II)I
def wX3_set_20 (post : Int32 → MS → Prop)   (st : MS) : Prop :=
  post (-2 : Int32) st
def wX3_set_23 (post : Int32 → MS → Prop)  (x1 : Int32) (x2 : Int32) (st : MS) : Prop :=
  pX3_remember  st ∧ ∀ st_1 : MS, qX3_remember  st st_1 → vp_in x1 7003 ∧ vp_in x1 7003 ∧ pX3_anew  (mA st_1 0 (x1).toNatClampNeg x2) ∧ ∀ st_2 : MS, qX3_anew  (mA st_1 0 (x1).toNatClampNeg x2) st_2 → pX3_record (st_1.1 0 (x1).toNatClampNeg) st_2 ∧ ∀ (r_3 : Int32) (st_4 : MS), qX3_record (st_1.1 0 (x1).toNatClampNeg) st_2 r_3 st_4 → post r_3 st_4
def wX3_set_10 (post : Int32 → MS → Prop)  (x1 : Int32) (x2 : Int32) (st : MS) : Prop :=
  ∀ r_1 : Int32, qX3_in (x2.toInt64) (0 : Int32) (1 : Int32) r_1 → ((¬ r_1 = 0) → wX3_set_23 post x1 x2 st) ∧ ((r_1 = 0) → wX3_set_20 post st)
def wX3_set_0 (post : Int32 → MS → Prop)  (x1 : Int32) (x2 : Int32) (st : MS) : Prop :=
  ∀ r_1 : Int32, qX3_in (x1.toInt64) (0 : Int32) (1 : Int32) r_1 → ((r_1 = 0) → wX3_set_20 post st) ∧ ((¬ r_1 = 0) → wX3_set_10 post x1 x2 st)
-- begin()I
def wX3_begin_0 (post : Int32 → MS → Prop)   (st : MS) : Prop :=
  pX3_remember  st ∧ ∀ st_1 : MS, qX3_remember  st st_1 → vp_in (2 : Int32) 7003 ∧ pX3_anew  st_1 ∧ ∀ st_2 : MS, qX3_anew  st_1 st_2 → pX3_record (st_1.1 0 ((2 : Int32)).toNatClampNeg) st_2 ∧ ∀ (r_3 : Int32) (st_4 : MS), qX3_record (st_1.1 0 ((2 : Int32)).toNatClampNeg) st_2 r_3 st_4 → post r_3 st_4
-- place(I)I
def wX3_place_0 (post : Int32 → MS → Prop)  (x1 : Int32) (st : MS) : Prop :=
  pX3_remember  st ∧ ∀ st_1 : MS, qX3_remember  st st_1 → pX3_places x1 st_1 ∧ ∀ (r_2 : Int32) (st_3 : MS), qX3_places x1 st_1 r_2 st_3 → pX3_record r_2 st_3 ∧ ∀ (r_4 : Int32) (st_5 : MS), qX3_record r_2 st_3 r_4 st_5 → post r_4 st_5
-- slide(II)I
def wX3_slide_0 (post : Int32 → MS → Prop)  (x1 : Int32) (x2 : Int32) (st : MS) : Prop :=
  pX3_remember  st ∧ ∀ st_1 : MS, qX3_remember  st st_1 → pX3_slides x1 x2 st_1 ∧ ∀ (r_2 : Int32) (st_3 : MS), qX3_slides x1 x2 st_1 r_2 st_3 → pX3_record r_2 st_3 ∧ ∀ (r_4 : Int32) (st_5 : MS), qX3_record r_2 st_3 r_4 st_5 → post r_4 st_5
-- pass()I
def wX3_pass_0 (post : Int32 → MS → Prop)   (st : MS) : Prop :=
  pX3_remember  st ∧ ∀ st_1 : MS, qX3_remember  st st_1 → pX3_moves (90 : Int32) (0 : Int32) st_1 ∧ ∀ (r_2 : Int32) (st_3 : MS), qX3_moves (90 : Int32) (0 : Int32) st_1 r_2 st_3 → pX3_record r_2 st_3 ∧ ∀ (r_4 : Int32) (st_5 : MS), qX3_record r_2 st_3 r_4 st_5 → post r_4 st_5
-- play(I)I
def wX3_play_0 (post : Int32 → MS → Prop)  (x1 : Int32) (st : MS) : Prop :=
  pX3_remember  st ∧ ∀ st_1 : MS, qX3_remember  st st_1 → pX3_plays x1 st_1 ∧ ∀ (r_2 : Int32) (st_3 : MS), qX3_plays x1 st_1 r_2 st_3 → pX3_record r_2 st_3 ∧ ∀ (r_4 : Int32) (st_5 : MS), qX3_record r_2 st_3 r_4 st_5 → post r_4 st_5
-- at(I)I
def wX3_at_43 (post : Int32 → MS → Prop)  (s0 : Int32) (st : MS) : Prop :=
  post s0 st
def wX3_at_35 (post : Int32 → MS → Prop)  (x1 : Int32) (st : MS) : Prop :=
  vp_in x1 9 ∧ wX3_at_43 post ((st.1 7 (x1).toNatClampNeg) - (1 : Int32)) st
def wX3_at_30 (post : Int32 → MS → Prop)   (st : MS) : Prop :=
  wX3_at_43 post (-6 : Int32) st
def wX3_at_13 (post : Int32 → MS → Prop)  (x1 : Int32) (st : MS) : Prop :=
  pX3_now  st ∧ ∀ r_1 : Int32, qX3_now  st r_1 → pX3_open r_1 st ∧ ∀ st_3 : MS, qX3_open r_1 st st_3 → vp_in x1 9 ∧ ((¬ (st_3.1 7 (x1).toNatClampNeg) = 0) → wX3_at_35 post x1 st_3) ∧ (((st_3.1 7 (x1).toNatClampNeg) = 0) → wX3_at_30 post st_3)
def wX3_at_11 (post : Int32 → MS → Prop)   (st : MS) : Prop :=
  post (-1 : Int32) st
def wX3_at_0 (post : Int32 → MS → Prop)  (x1 : Int32) (st : MS) : Prop :=
  ∀ r_1 : Int32, qX3_in (x1.toInt64) (0 : Int32) (8 : Int32) r_1 → ((¬ r_1 = 0) → wX3_at_13 post x1 st) ∧ ((r_1 = 0) → wX3_at_11 post st)
-- count(I)I
def wX3_count_72 (post : Int32 → MS → Prop)   (st : MS) : Prop :=
  post (st.2 3) st
def wX3_count_77 (post : Int32 → MS → Prop)   (st : MS) : Prop :=
  vp_in (2 : Int32) 7003 ∧ post (st.1 0 ((2 : Int32)).toNatClampNeg) st
def wX3_count_84 (post : Int32 → MS → Prop)  (x1 : Int32) (st : MS) : Prop :=
  pX3_men (x1 - (2 : Int32)) st ∧ ∀ r_1 : Int32, qX3_men (x1 - (2 : Int32)) st r_1 → post r_1 st
def wX3_count_104 (post : Int32 → MS → Prop)  (s0 : Int32) (st : MS) : Prop :=
  post s0 st
def wX3_count_103 (post : Int32 → MS → Prop)   (st : MS) : Prop :=
  wX3_count_104 post (0 : Int32) st
def wX3_count_99 (post : Int32 → MS → Prop)   (st : MS) : Prop :=
  wX3_count_104 post (1 : Int32) st
def wX3_count_92 (post : Int32 → MS → Prop)   (st : MS) : Prop :=
  pX3_isOver  st ∧ ∀ (r_1 : Int32) (st_2 : MS), qX3_isOver  st r_1 st_2 → ((r_1 = 0) → wX3_count_103 post st_2) ∧ ((¬ r_1 = 0) → wX3_count_99 post st_2)
def wX3_count_123 (post : Int32 → MS → Prop)  (s0 : Int32) (st : MS) : Prop :=
  post s0 st
def wX3_count_121 (post : Int32 → MS → Prop)   (st : MS) : Prop :=
  wX3_count_123 post (-6 : Int32) st
def wX3_count_112 (post : Int32 → MS → Prop)   (st : MS) : Prop :=
  wX3_count_123 post ((1 : Int32) - (st.2 3)) st
def wX3_count_105 (post : Int32 → MS → Prop)   (st : MS) : Prop :=
  pX3_hasLost  st ∧ ∀ (r_1 : Int32) (st_2 : MS), qX3_hasLost  st r_1 st_2 → ((r_1 = 0) → wX3_count_121 post st_2) ∧ ((¬ r_1 = 0) → wX3_count_112 post st_2)
def wX3_count_136 (post : Int32 → MS → Prop)  (s0 : Int32) (st : MS) : Prop :=
  post s0 st
def wX3_count_135 (post : Int32 → MS → Prop)   (st : MS) : Prop :=
  wX3_count_136 post (0 : Int32) st
def wX3_count_131 (post : Int32 → MS → Prop)   (st : MS) : Prop :=
  wX3_count_136 post (1 : Int32) st
def wX3_count_124 (post : Int32 → MS → Prop)   (st : MS) : Prop :=
  pX3_isDrawn  st ∧ ∀ (r_1 : Int32) (st_2 : MS), qX3_isDrawn  st r_1 st_2 → ((r_1 = 0) → wX3_count_135 post st_2) ∧ ((¬ r_1 = 0) → wX3_count_131 post st_2)
def wX3_count_137 (post : Int32 → MS → Prop)   (st : MS) : Prop :=
  pX3_often  st ∧ ∀ r_1 : Int32, qX3_often  st r_1 → post r_1 st
def wX3_count_142 (post : Int32 → MS → Prop)  (x1 : Int32) (st : MS) : Prop :=
  vp_in (x1 - (8 : Int32)) 7003 ∧ post (st.1 0 ((x1 - (8 : Int32))).toNatClampNeg) st
def wX3_count_152 (post : Int32 → MS → Prop)   (st : MS) : Prop :=
  post (st.2 1) st
def wX3_count_157 (post : Int32 → MS → Prop)   (st : MS) : Prop :=
  post (st.2 0) st
def wX3_count_162 (post : Int32 → MS → Prop)   (st : MS) : Prop :=
  post (-2 : Int32) st
def wX3_count_0 (post : Int32 → MS → Prop)  (x1 : Int32) (st : MS) : Prop :=
  pX3_now  st ∧ ∀ r_1 : Int32, qX3_now  st r_1 → pX3_open r_1 st ∧ ∀ st_3 : MS, qX3_open r_1 st st_3 → (x1 = (0 : Int32) → wX3_count_72 post st_3) ∧ (x1 = (1 : Int32) → wX3_count_77 post st_3) ∧ (x1 = (2 : Int32) → wX3_count_84 post x1 st_3) ∧ (x1 = (3 : Int32) → wX3_count_84 post x1 st_3) ∧ (x1 = (4 : Int32) → wX3_count_92 post st_3) ∧ (x1 = (5 : Int32) → wX3_count_105 post st_3) ∧ (x1 = (6 : Int32) → wX3_count_124 post st_3) ∧ (x1 = (7 : Int32) → wX3_count_137 post st_3) ∧ (x1 = (8 : Int32) → wX3_count_142 post x1 st_3) ∧ (x1 = (9 : Int32) → wX3_count_142 post x1 st_3) ∧ (x1 = (10 : Int32) → wX3_count_152 post st_3) ∧ (x1 = (11 : Int32) → wX3_count_157 post st_3) ∧ (¬ x1 = (0 : Int32) → ¬ x1 = (1 : Int32) → ¬ x1 = (2 : Int32) → ¬ x1 = (3 : Int32) → ¬ x1 = (4 : Int32) → ¬ x1 = (5 : Int32) → ¬ x1 = (6 : Int32) → ¬ x1 = (7 : Int32) → ¬ x1 = (8 : Int32) → ¬ x1 = (9 : Int32) → ¬ x1 = (10 : Int32) → ¬ x1 = (11 : Int32) → wX3_count_162 post st_3)
-- neighbours(I)I
def wX3_neighbours_48 (post : Int32 → MS → Prop)  (x2 : Int32) (st : MS) : Prop :=
  post x2 st
def wX3_neighbours_40 (post : Int32 → MS → Prop) (L17 : Int32 → Int32 → Int32 → MS → Prop) (x1 : Int32) (x3 : Int32) (s0 : Int32) (s1 : Int32) (st : MS) : Prop :=
  L17 x1 (s0 ||| s1) (x3 + (1 : Int32)) st
def wX3_neighbours_39 (post : Int32 → MS → Prop) (L17 : Int32 → Int32 → Int32 → MS → Prop) (x1 : Int32) (x3 : Int32) (s0 : Int32) (st : MS) : Prop :=
  wX3_neighbours_40 post L17 x1 x3 s0 (0 : Int32) st
def wX3_neighbours_33 (post : Int32 → MS → Prop) (L17 : Int32 → Int32 → Int32 → MS → Prop) (x1 : Int32) (x3 : Int32) (s0 : Int32) (st : MS) : Prop :=
  wX3_neighbours_40 post L17 x1 x3 s0 ((1 : Int32) <<< (x3 &&& 31)) st
def wX3_neighbours_23 (post : Int32 → MS → Prop) (L17 : Int32 → Int32 → Int32 → MS → Prop) (x1 : Int32) (x2 : Int32) (x3 : Int32) (st : MS) : Prop :=
  pX3_areNeighbours x1 x3 st ∧ ∀ r_1 : Int32, qX3_areNeighbours x1 x3 st r_1 → ((r_1 = 0) → wX3_neighbours_39 post L17 x1 x3 x2 st) ∧ ((¬ r_1 = 0) → wX3_neighbours_33 post L17 x1 x3 x2 st)
def wX3_neighbours_17_b (post : Int32 → MS → Prop) (L17 : Int32 → Int32 → Int32 → MS → Prop) (x1 : Int32) (x2 : Int32) (x3 : Int32) (st : MS) : Prop :=
  (((9 : Int32) ≤ x3) → wX3_neighbours_48 post x2 st) ∧ ((¬ (9 : Int32) ≤ x3) → wX3_neighbours_23 post L17 x1 x2 x3 st)
def wX3_neighbours_17 (post : Int32 → MS → Prop)  (x1 : Int32) (x2 : Int32) (x3 : Int32) (st : MS) : Prop :=
  wloop (V := Int32 × Int32 × Int32 × MS) (fun L v => wX3_neighbours_17_b post (fun x1 x2 x3 st => L (x1, x2, x3, st)) v.1 v.2.1 v.2.2.1 v.2.2.2) (x1, x2, x3, st)
def wX3_neighbours_13 (post : Int32 → MS → Prop)  (x1 : Int32) (st : MS) : Prop :=
  wX3_neighbours_17 post x1 (0 : Int32) (0 : Int32) st
def wX3_neighbours_11 (post : Int32 → MS → Prop)   (st : MS) : Prop :=
  post (-1 : Int32) st
def wX3_neighbours_0 (post : Int32 → MS → Prop)  (x1 : Int32) (st : MS) : Prop :=
  ∀ r_1 : Int32, qX3_in (x1.toInt64) (0 : Int32) (8 : Int32) r_1 → ((¬ r_1 = 0) → wX3_neighbours_13 post x1 st) ∧ ((r_1 = 0) → wX3_neighbours_11 post st)
-- move(I)I
def wX3_move_29 (post : Int32 → MS → Prop)  (s0 : Int32) (st : MS) : Prop :=
  post s0 st
def wX3_move_28 (post : Int32 → MS → Prop)   (st : MS) : Prop :=
  wX3_move_29 post (-1 : Int32) st
def wX3_move_19 (post : Int32 → MS → Prop)  (x1 : Int32) (st : MS) : Prop :=
  vp_in x1 40 ∧ wX3_move_29 post (st.1 8 (x1).toNatClampNeg) st
def wX3_move_0 (post : Int32 → MS → Prop)  (x1 : Int32) (st : MS) : Prop :=
  pX3_lookNow  st ∧ ∀ st_1 : MS, qX3_lookNow  st st_1 → ∀ r_2 : Int32, qX3_in (x1.toInt64) (0 : Int32) ((st_1.2 4) - (1 : Int32)) r_2 → ((r_2 = 0) → wX3_move_28 post st_1) ∧ ((¬ r_2 = 0) → wX3_move_19 post x1 st_1)
-- worth()I
def wX3_worth_0 (post : Int32 → MS → Prop)   (st : MS) : Prop :=
  pX3_now  st ∧ ∀ r_1 : Int32, qX3_now  st r_1 → pX3_worthAt r_1 st ∧ ∀ (r_3 : Int32) (st_4 : MS), qX3_worthAt r_1 st r_3 st_4 → post (r_3 + (100 : Int32)) st_4
-- behind(I)I
def wX3_behind_10 (post : Int32 → MS → Prop)  (x1 : Int32) (st : MS) : Prop :=
  pX3_now  st ∧ ∀ r_1 : Int32, qX3_now  st r_1 → pX3_open r_1 st ∧ ∀ st_3 : MS, qX3_open r_1 st st_3 → pX3_next x1 st_3 ∧ ∀ (r_4 : Int32) (st_5 : MS), qX3_next x1 st_3 r_4 st_5 → pX3_worthAt r_4 st_5 ∧ ∀ (r_6 : Int32) (st_7 : MS), qX3_worthAt r_4 st_5 r_6 st_7 → post (r_6 + (100 : Int32)) st_7
def wX3_behind_8 (post : Int32 → MS → Prop)   (st : MS) : Prop :=
  post (-1 : Int32) st
def wX3_behind_0 (post : Int32 → MS → Prop)  (x1 : Int32) (st : MS) : Prop :=
  pX3_isMove x1 st ∧ ∀ (r_1 : Int32) (st_2 : MS), qX3_isMove x1 st r_1 st_2 → ((¬ r_1 = 0) → wX3_behind_10 post x1 st_2) ∧ ((r_1 = 0) → wX3_behind_8 post st_2)
-- best()I
def wX3_best_16 (post : Int32 → MS → Prop)  (s0 : Int32) (st : MS) : Prop :=
  post s0 st
def wX3_best_12 (post : Int32 → MS → Prop)   (st : MS) : Prop :=
  pX3_bestMove  st ∧ ∀ (r_1 : Int32) (st_2 : MS), qX3_bestMove  st r_1 st_2 → wX3_best_16 post r_1 st_2
def wX3_best_7 (post : Int32 → MS → Prop)   (st : MS) : Prop :=
  wX3_best_16 post (-5 : Int32) st
def wX3_best_0 (post : Int32 → MS → Prop)   (st : MS) : Prop :=
  pX3_isOver  st ∧ ∀ (r_1 : Int32) (st_2 : MS), qX3_isOver  st r_1 st_2 → ((r_1 = 0) → wX3_best_12 post st_2) ∧ ((¬ r_1 = 0) → wX3_best_7 post st_2)
-- worthOf(III)I
def wX3_worthOf_40 (post : Int32 → MS → Prop)   (st : MS) : Prop :=
  post (-2 : Int32) st
def wX3_worthOf_113 (post : Int32 → MS → Prop)  (s0 : Int32) (st : MS) : Prop :=
  post s0 st
def wX3_worthOf_111 (post : Int32 → MS → Prop)   (st : MS) : Prop :=
  wX3_worthOf_113 post (-2 : Int32) st
def wX3_worthOf_99 (post : Int32 → MS → Prop)  (x4 : Int32) (st : MS) : Prop :=
  pX3_worthAt x4 st ∧ ∀ (r_1 : Int32) (st_2 : MS), qX3_worthAt x4 st r_1 st_2 → wX3_worthOf_113 post (r_1 + (100 : Int32)) st_2
def wX3_worthOf_81 (post : Int32 → MS → Prop)  (x3 : Int32) (st : MS) : Prop :=
  pX3_code  (mF st 3 x3) ∧ ∀ r_1 : Int32, qX3_code  (mF st 3 x3) r_1 → pX3_isLegal  (mF st 3 x3) ∧ ∀ r_3 : Int32, qX3_isLegal  (mF st 3 x3) r_3 → ((r_3 = 0) → wX3_worthOf_111 post (mF st 3 x3)) ∧ ((¬ r_3 = 0) → wX3_worthOf_99 post r_1 (mF st 3 x3))
def wX3_worthOf_53 (post : Int32 → MS → Prop) (L46 : Int32 → Int32 → Int32 → Int32 → MS → Prop) (x1 : Int32) (x2 : Int32) (x3 : Int32) (x4 : Int32) (st : MS) : Prop :=
  vp_in x4 9 ∧ L46 x1 x2 x3 (x4 + (1 : Int32)) (mA st 7 (x4).toNatClampNeg (((x1 >>> (x4 &&& 31)) &&& (1 : Int32)) + ((2 : Int32) * ((x2 >>> (x4 &&& 31)) &&& (1 : Int32)))))
def wX3_worthOf_46_b (post : Int32 → MS → Prop) (L46 : Int32 → Int32 → Int32 → Int32 → MS → Prop) (x1 : Int32) (x2 : Int32) (x3 : Int32) (x4 : Int32) (st : MS) : Prop :=
  (((9 : Int32) ≤ x4) → wX3_worthOf_81 post x3 st) ∧ ((¬ (9 : Int32) ≤ x4) → wX3_worthOf_53 post L46 x1 x2 x3 x4 st)
def wX3_worthOf_46 (post : Int32 → MS → Prop)  (x1 : Int32) (x2 : Int32) (x3 : Int32) (x4 : Int32) (st : MS) : Prop :=
  wloop (V := Int32 × Int32 × Int32 × Int32 × MS) (fun L v => wX3_worthOf_46_b post (fun x1 x2 x3 x4 st => L (x1, x2, x3, x4, st)) v.1 v.2.1 v.2.2.1 v.2.2.2.1 v.2.2.2.2) (x1, x2, x3, x4, st)
def wX3_worthOf_43 (post : Int32 → MS → Prop)  (x1 : Int32) (x2 : Int32) (x3 : Int32) (st : MS) : Prop :=
  wX3_worthOf_46 post x1 x2 x3 (0 : Int32) st
def wX3_worthOf_34 (post : Int32 → MS → Prop)  (x1 : Int32) (x2 : Int32) (x3 : Int32) (st : MS) : Prop :=
  (((x1 &&& x2) = 0) → wX3_worthOf_43 post x1 x2 x3 st) ∧ ((¬ (x1 &&& x2) = 0) → wX3_worthOf_40 post st)
def wX3_worthOf_24 (post : Int32 → MS → Prop)  (x1 : Int32) (x2 : Int32) (x3 : Int32) (st : MS) : Prop :=
  ∀ r_1 : Int32, qX3_in (x3.toInt64) (0 : Int32) (1 : Int32) r_1 → ((r_1 = 0) → wX3_worthOf_40 post st) ∧ ((¬ r_1 = 0) → wX3_worthOf_34 post x1 x2 x3 st)
def wX3_worthOf_12 (post : Int32 → MS → Prop)  (x1 : Int32) (x2 : Int32) (x3 : Int32) (st : MS) : Prop :=
  ∀ r_1 : Int32, qX3_in (x2.toInt64) (0 : Int32) (511 : Int32) r_1 → ((r_1 = 0) → wX3_worthOf_40 post st) ∧ ((¬ r_1 = 0) → wX3_worthOf_24 post x1 x2 x3 st)
def wX3_worthOf_0 (post : Int32 → MS → Prop)  (x1 : Int32) (x2 : Int32) (x3 : Int32) (st : MS) : Prop :=
  ∀ r_1 : Int32, qX3_in (x1.toInt64) (0 : Int32) (511 : Int32) r_1 → ((r_1 = 0) → wX3_worthOf_40 post st) ∧ ((¬ r_1 = 0) → wX3_worthOf_12 post x1 x2 x3 st)
-- tally(I)I
def wX3_tally_165 (post : Int32 → MS → Prop)  (s0 : Int32) (st : MS) : Prop :=
  post s0 st
def wX3_tally_163 (post : Int32 → MS → Prop)  (x4 : Int32) (st : MS) : Prop :=
  wX3_tally_165 post x4 st
def wX3_tally_159 (post : Int32 → MS → Prop)  (x3 : Int32) (st : MS) : Prop :=
  wX3_tally_165 post x3 st
def wX3_tally_154 (post : Int32 → MS → Prop)  (x1 : Int32) (x3 : Int32) (x4 : Int32) (st : MS) : Prop :=
  (((4 : Int32) ≤ x1) → wX3_tally_163 post x4 st) ∧ ((¬ (4 : Int32) ≤ x1) → wX3_tally_159 post x3 st)
def wX3_tally_148 (post : Int32 → MS → Prop) (L26 : Int32 → Int32 → Int32 → Int32 → Int32 → MS → Prop) (x1 : Int32) (x2 : Int32) (x3 : Int32) (x4 : Int32) (x5 : Int32) (st : MS) : Prop :=
  L26 x1 x2 x3 x4 (x5 + (1 : Int32)) st
def wX3_tally_146 (post : Int32 → MS → Prop) (L26 : Int32 → Int32 → Int32 → Int32 → Int32 → MS → Prop) (x1 : Int32) (x2 : Int32) (x3 : Int32) (x5 : Int32) (s0 : Int32) (st : MS) : Prop :=
  wX3_tally_148 post L26 x1 x2 x3 s0 x5 st
def wX3_tally_144 (post : Int32 → MS → Prop) (L26 : Int32 → Int32 → Int32 → Int32 → Int32 → MS → Prop) (x1 : Int32) (x2 : Int32) (x3 : Int32) (x4 : Int32) (x5 : Int32) (st : MS) : Prop :=
  wX3_tally_146 post L26 x1 x2 x3 x5 x4 st
def wX3_tally_139 (post : Int32 → MS → Prop) (L26 : Int32 → Int32 → Int32 → Int32 → Int32 → MS → Prop) (x1 : Int32) (x2 : Int32) (x3 : Int32) (x5 : Int32) (x7 : Int32) (st : MS) : Prop :=
  wX3_tally_146 post L26 x1 x2 x3 x5 x7 st
def wX3_tally_130 (post : Int32 → MS → Prop) (L26 : Int32 → Int32 → Int32 → Int32 → Int32 → MS → Prop) (x1 : Int32) (x2 : Int32) (x3 : Int32) (x4 : Int32) (x5 : Int32) (s0 : Int32) (st : MS) : Prop :=
  ((s0 ≤ x4) → wX3_tally_144 post L26 x1 x2 x3 x4 x5 st) ∧ ((¬ s0 ≤ x4) → wX3_tally_139 post L26 x1 x2 x3 x5 s0 st)
def wX3_tally_129 (post : Int32 → MS → Prop) (L26 : Int32 → Int32 → Int32 → Int32 → Int32 → MS → Prop) (x1 : Int32) (x2 : Int32) (x3 : Int32) (x4 : Int32) (x5 : Int32) (st : MS) : Prop :=
  wX3_tally_130 post L26 x1 x2 x3 x4 x5 (0 : Int32) st
def wX3_tally_122 (post : Int32 → MS → Prop) (L26 : Int32 → Int32 → Int32 → Int32 → Int32 → MS → Prop) (x1 : Int32) (x2 : Int32) (x3 : Int32) (x4 : Int32) (x5 : Int32) (x6 : Int32) (st : MS) : Prop :=
  wX3_tally_130 post L26 x1 x2 x3 x4 x5 ((-1 : Int32) - x6) st
def wX3_tally_117 (post : Int32 → MS → Prop) (L26 : Int32 → Int32 → Int32 → Int32 → Int32 → MS → Prop) (x1 : Int32) (x2 : Int32) (x3 : Int32) (x4 : Int32) (x5 : Int32) (x6 : Int32) (st : MS) : Prop :=
  ((0 ≤ x6) → wX3_tally_129 post L26 x1 x2 x3 x4 x5 st) ∧ ((¬ 0 ≤ x6) → wX3_tally_122 post L26 x1 x2 x3 x4 x5 x6 st)
def wX3_tally_112 (post : Int32 → MS → Prop) (L26 : Int32 → Int32 → Int32 → Int32 → Int32 → MS → Prop) (x1 : Int32) (x2 : Int32) (x3 : Int32) (x4 : Int32) (x5 : Int32) (x6 : Int32) (st : MS) : Prop :=
  ((¬ x1 = (5 : Int32)) → wX3_tally_129 post L26 x1 x2 x3 x4 x5 st) ∧ ((x1 = (5 : Int32)) → wX3_tally_117 post L26 x1 x2 x3 x4 x5 x6 st)
def wX3_tally_107 (post : Int32 → MS → Prop) (L26 : Int32 → Int32 → Int32 → Int32 → Int32 → MS → Prop) (x1 : Int32) (x2 : Int32) (x3 : Int32) (x4 : Int32) (x5 : Int32) (x6 : Int32) (st : MS) : Prop :=
  wX3_tally_130 post L26 x1 x2 x3 x4 x5 x6 st
def wX3_tally_102 (post : Int32 → MS → Prop) (L26 : Int32 → Int32 → Int32 → Int32 → Int32 → MS → Prop) (x1 : Int32) (x2 : Int32) (x3 : Int32) (x4 : Int32) (x5 : Int32) (x6 : Int32) (st : MS) : Prop :=
  ((x6 ≤ 0) → wX3_tally_112 post L26 x1 x2 x3 x4 x5 x6 st) ∧ ((¬ x6 ≤ 0) → wX3_tally_107 post L26 x1 x2 x3 x4 x5 x6 st)
def wX3_tally_95 (post : Int32 → MS → Prop) (L26 : Int32 → Int32 → Int32 → Int32 → Int32 → MS → Prop) (x1 : Int32) (x2 : Int32) (x4 : Int32) (x5 : Int32) (x6 : Int32) (s0 : Int32) (s1 : Int32) (st : MS) : Prop :=
  ((¬ x1 = (4 : Int32)) → wX3_tally_112 post L26 x1 x2 (s0 + s1) x4 x5 x6 st) ∧ ((x1 = (4 : Int32)) → wX3_tally_102 post L26 x1 x2 (s0 + s1) x4 x5 x6 st)
def wX3_tally_90 (post : Int32 → MS → Prop) (L26 : Int32 → Int32 → Int32 → Int32 → Int32 → MS → Prop) (x1 : Int32) (x2 : Int32) (x4 : Int32) (x5 : Int32) (x6 : Int32) (s0 : Int32) (st : MS) : Prop :=
  wX3_tally_95 post L26 x1 x2 x4 x5 x6 s0 (1 : Int32) st
def wX3_tally_94 (post : Int32 → MS → Prop) (L26 : Int32 → Int32 → Int32 → Int32 → Int32 → MS → Prop) (x1 : Int32) (x2 : Int32) (x4 : Int32) (x5 : Int32) (x6 : Int32) (s0 : Int32) (st : MS) : Prop :=
  wX3_tally_95 post L26 x1 x2 x4 x5 x6 s0 (0 : Int32) st
def wX3_tally_85 (post : Int32 → MS → Prop) (L26 : Int32 → Int32 → Int32 → Int32 → Int32 → MS → Prop) (x1 : Int32) (x2 : Int32) (x4 : Int32) (x5 : Int32) (x6 : Int32) (s0 : Int32) (st : MS) : Prop :=
  ((¬ x6 = 0) → wX3_tally_94 post L26 x1 x2 x4 x5 x6 s0 st) ∧ ((x6 = 0) → wX3_tally_90 post L26 x1 x2 x4 x5 x6 s0 st)
def wX3_tally_80 (post : Int32 → MS → Prop) (L26 : Int32 → Int32 → Int32 → Int32 → Int32 → MS → Prop) (x1 : Int32) (x2 : Int32) (x4 : Int32) (x5 : Int32) (x6 : Int32) (s0 : Int32) (st : MS) : Prop :=
  ((¬ x1 = (3 : Int32)) → wX3_tally_94 post L26 x1 x2 x4 x5 x6 s0 st) ∧ ((x1 = (3 : Int32)) → wX3_tally_85 post L26 x1 x2 x4 x5 x6 s0 st)
def wX3_tally_75 (post : Int32 → MS → Prop) (L26 : Int32 → Int32 → Int32 → Int32 → Int32 → MS → Prop) (x1 : Int32) (x2 : Int32) (x4 : Int32) (x5 : Int32) (x6 : Int32) (s0 : Int32) (st : MS) : Prop :=
  ((x6 < 0) → wX3_tally_90 post L26 x1 x2 x4 x5 x6 s0 st) ∧ ((¬ x6 < 0) → wX3_tally_80 post L26 x1 x2 x4 x5 x6 s0 st)
def wX3_tally_70 (post : Int32 → MS → Prop) (L26 : Int32 → Int32 → Int32 → Int32 → Int32 → MS → Prop) (x1 : Int32) (x2 : Int32) (x4 : Int32) (x5 : Int32) (x6 : Int32) (s0 : Int32) (st : MS) : Prop :=
  ((¬ x1 = (2 : Int32)) → wX3_tally_80 post L26 x1 x2 x4 x5 x6 s0 st) ∧ ((x1 = (2 : Int32)) → wX3_tally_75 post L26 x1 x2 x4 x5 x6 s0 st)
def wX3_tally_65 (post : Int32 → MS → Prop) (L26 : Int32 → Int32 → Int32 → Int32 → Int32 → MS → Prop) (x1 : Int32) (x2 : Int32) (x4 : Int32) (x5 : Int32) (x6 : Int32) (s0 : Int32) (st : MS) : Prop :=
  ((0 < x6) → wX3_tally_90 post L26 x1 x2 x4 x5 x6 s0 st) ∧ ((¬ 0 < x6) → wX3_tally_70 post L26 x1 x2 x4 x5 x6 s0 st)
def wX3_tally_60 (post : Int32 → MS → Prop) (L26 : Int32 → Int32 → Int32 → Int32 → Int32 → MS → Prop) (x1 : Int32) (x2 : Int32) (x4 : Int32) (x5 : Int32) (x6 : Int32) (s0 : Int32) (st : MS) : Prop :=
  ((¬ x1 = (1 : Int32)) → wX3_tally_70 post L26 x1 x2 x4 x5 x6 s0 st) ∧ ((x1 = (1 : Int32)) → wX3_tally_65 post L26 x1 x2 x4 x5 x6 s0 st)
def wX3_tally_55 (post : Int32 → MS → Prop) (L26 : Int32 → Int32 → Int32 → Int32 → Int32 → MS → Prop) (x1 : Int32) (x2 : Int32) (x3 : Int32) (x4 : Int32) (x5 : Int32) (x6 : Int32) (st : MS) : Prop :=
  ((x1 = 0) → wX3_tally_90 post L26 x1 x2 x4 x5 x6 x3 st) ∧ ((¬ x1 = 0) → wX3_tally_60 post L26 x1 x2 x4 x5 x6 x3 st)
def wX3_tally_52 (post : Int32 → MS → Prop) (L26 : Int32 → Int32 → Int32 → Int32 → Int32 → MS → Prop) (x1 : Int32) (x2 : Int32) (x3 : Int32) (x4 : Int32) (x5 : Int32) (st : MS) : Prop :=
  wX3_tally_148 post L26 x1 x2 x3 x4 x5 st
def wX3_tally_35 (post : Int32 → MS → Prop) (L26 : Int32 → Int32 → Int32 → Int32 → Int32 → MS → Prop) (x1 : Int32) (x2 : Int32) (x3 : Int32) (x4 : Int32) (x5 : Int32) (st : MS) : Prop :=
  vp_in x5 157464 ∧ ((¬ (st.1 9 (x5).toNatClampNeg) = (2000 : Int32)) → wX3_tally_55 post L26 x1 x2 x3 x4 x5 (st.1 9 (x5).toNatClampNeg) st) ∧ (((st.1 9 (x5).toNatClampNeg) = (2000 : Int32)) → wX3_tally_52 post L26 x1 x2 x3 x4 x5 st)
def wX3_tally_26_b (post : Int32 → MS → Prop) (L26 : Int32 → Int32 → Int32 → Int32 → Int32 → MS → Prop) (x1 : Int32) (x2 : Int32) (x3 : Int32) (x4 : Int32) (x5 : Int32) (st : MS) : Prop :=
  (((x2 + (39366 : Int32)) ≤ x5) → wX3_tally_154 post x1 x3 x4 st) ∧ ((¬ (x2 + (39366 : Int32)) ≤ x5) → wX3_tally_35 post L26 x1 x2 x3 x4 x5 st)
def wX3_tally_26 (post : Int32 → MS → Prop)  (x1 : Int32) (x2 : Int32) (x3 : Int32) (x4 : Int32) (x5 : Int32) (st : MS) : Prop :=
  wloop (V := Int32 × Int32 × Int32 × Int32 × Int32 × MS) (fun L v => wX3_tally_26_b post (fun x1 x2 x3 x4 x5 st => L (x1, x2, x3, x4, x5, st)) v.1 v.2.1 v.2.2.1 v.2.2.2.1 v.2.2.2.2.1 v.2.2.2.2.2) (x1, x2, x3, x4, x5, st)
def wX3_tally_13 (post : Int32 → MS → Prop)  (x1 : Int32) (st : MS) : Prop :=
  pX3_table  st ∧ ∀ (r_1 : Int32) (st_2 : MS), qX3_table  st r_1 st_2 → wX3_tally_26 post x1 r_1 (0 : Int32) (0 : Int32) r_1 st_2
def wX3_tally_10 (post : Int32 → MS → Prop)   (st : MS) : Prop :=
  post (-2 : Int32) st
def wX3_tally_0 (post : Int32 → MS → Prop)  (x1 : Int32) (st : MS) : Prop :=
  ∀ r_1 : Int32, qX3_in (x1.toInt64) (0 : Int32) (5 : Int32) r_1 → ((¬ r_1 = 0) → wX3_tally_13 post x1 st) ∧ ((r_1 = 0) → wX3_tally_10 post st)
-- share()I
def wX3_share_0 (post : Int32 → MS → Prop)   (st : MS) : Prop :=
  pX3_tally (1 : Int32) st ∧ ∀ (r_1 : Int32) (st_2 : MS), qX3_tally (1 : Int32) st r_1 st_2 → pX3_tally (0 : Int32) st_2 ∧ ∀ (r_3 : Int32) (st_4 : MS), qX3_tally (0 : Int32) st_2 r_3 st_4 → vf_n32 (FP.fdiv (FP.i2f r_1) (FP.i2f r_3)) ∧ ∀ r_5 : Int32, qJ13_floatToIntBits (FP.fdiv (FP.i2f r_1) (FP.i2f r_3)) r_5 → post r_5 st_4
-- many(I)I
def wX3_many_62 (post : Int32 → MS → Prop)  (x3 : Int32) (st : MS) : Prop :=
  post x3 st
def wX3_many_54 (post : Int32 → MS → Prop) (L25 : Int32 → Int32 → Int32 → Int32 → MS → Prop) (x1 : Int32) (x2 : Int32) (x4 : Int32) (s0 : Int32) (s1 : Int32) (st : MS) : Prop :=
  L25 x1 x2 (s0 + s1) (x4 + (1 : Int32)) st
def wX3_many_53 (post : Int32 → MS → Prop) (L25 : Int32 → Int32 → Int32 → Int32 → MS → Prop) (x1 : Int32) (x2 : Int32) (x4 : Int32) (s0 : Int32) (st : MS) : Prop :=
  wX3_many_54 post L25 x1 x2 x4 s0 (0 : Int32) st
def wX3_many_49 (post : Int32 → MS → Prop) (L25 : Int32 → Int32 → Int32 → Int32 → MS → Prop) (x1 : Int32) (x2 : Int32) (x4 : Int32) (s0 : Int32) (st : MS) : Prop :=
  wX3_many_54 post L25 x1 x2 x4 s0 (1 : Int32) st
def wX3_many_34 (post : Int32 → MS → Prop) (L25 : Int32 → Int32 → Int32 → Int32 → MS → Prop) (x1 : Int32) (x2 : Int32) (x3 : Int32) (x4 : Int32) (st : MS) : Prop :=
  vp_in x4 157464 ∧ ((¬ (st.1 9 (x4).toNatClampNeg) = (x1 - (100 : Int32))) → wX3_many_53 post L25 x1 x2 x4 x3 st) ∧ (((st.1 9 (x4).toNatClampNeg) = (x1 - (100 : Int32))) → wX3_many_49 post L25 x1 x2 x4 x3 st)
def wX3_many_25_b (post : Int32 → MS → Prop) (L25 : Int32 → Int32 → Int32 → Int32 → MS → Prop) (x1 : Int32) (x2 : Int32) (x3 : Int32) (x4 : Int32) (st : MS) : Prop :=
  (((x2 + (39366 : Int32)) ≤ x4) → wX3_many_62 post x3 st) ∧ ((¬ (x2 + (39366 : Int32)) ≤ x4) → wX3_many_34 post L25 x1 x2 x3 x4 st)
def wX3_many_25 (post : Int32 → MS → Prop)  (x1 : Int32) (x2 : Int32) (x3 : Int32) (x4 : Int32) (st : MS) : Prop :=
  wloop (V := Int32 × Int32 × Int32 × Int32 × MS) (fun L v => wX3_many_25_b post (fun x1 x2 x3 x4 st => L (x1, x2, x3, x4, st)) v.1 v.2.1 v.2.2.1 v.2.2.2.1 v.2.2.2.2) (x1, x2, x3, x4, st)
def wX3_many_15 (post : Int32 → MS → Prop)  (x1 : Int32) (st : MS) : Prop :=
  pX3_table  st ∧ ∀ (r_1 : Int32) (st_2 : MS), qX3_table  st r_1 st_2 → wX3_many_25 post x1 r_1 (0 : Int32) r_1 st_2
def wX3_many_12 (post : Int32 → MS → Prop)   (st : MS) : Prop :=
  post (-2 : Int32) st
def wX3_many_0 (post : Int32 → MS → Prop)  (x1 : Int32) (st : MS) : Prop :=
  ∀ r_1 : Int32, qX3_in (x1.toInt64) (0 : Int32) (200 : Int32) r_1 → ((¬ r_1 = 0) → wX3_many_15 post x1 st) ∧ ((r_1 = 0) → wX3_many_12 post st)
-- put(J)I
def wX3_put_129 (post : Int32 → MS → Prop)   (st : MS) : Prop :=
  post (st.2 1) st
def wX3_put_97 (post : Int32 → MS → Prop) (L92 : Int32 → MS → Prop) (x6 : Int32) (st : MS) : Prop :=
  vp_in x6 8 ∧ vp_in (st.2 1) 80 ∧ L92 (x6 + (-1 : Int32)) (mF (mA st 5 ((st.2 1)).toNatClampNeg (st.1 6 (x6).toNatClampNeg)) 1 (((mA st 5 ((st.2 1)).toNatClampNeg (st.1 6 (x6).toNatClampNeg)).2 1) + (1 : Int32)))
def wX3_put_92_b (post : Int32 → MS → Prop) (L92 : Int32 → MS → Prop) (x6 : Int32) (st : MS) : Prop :=
  ((x6 < 0) → wX3_put_129 post st) ∧ ((¬ x6 < 0) → wX3_put_97 post L92 x6 st)
def wX3_put_92 (post : Int32 → MS → Prop)  (x6 : Int32) (st : MS) : Prop :=
  wloop (V := Int32 × MS) (fun L v => wX3_put_92_b post (fun x6 st => L (x6, st)) v.1 v.2) (x6, st)
def wX3_put_86 (post : Int32 → MS → Prop)  (x5 : Int32) (st : MS) : Prop :=
  wX3_put_92 post (x5 - (1 : Int32)) st
def wX3_put_83 (post : Int32 → MS → Prop)   (st : MS) : Prop :=
  post (-4 : Int32) st
def wX3_put_71 (post : Int32 → MS → Prop)  (x5 : Int32) (st : MS) : Prop :=
  ((((st.2 1) + x5) ≤ (80 : Int32)) → wX3_put_86 post x5 st) ∧ ((¬ ((st.2 1) + x5) ≤ (80 : Int32)) → wX3_put_83 post st)
def wX3_put_68 (post : Int32 → MS → Prop)   (st : MS) : Prop :=
  post (-2 : Int32) st
def wX3_put_63 (post : Int32 → MS → Prop)  (x5 : Int32) (st : MS) : Prop :=
  ((¬ x5 = 0) → wX3_put_71 post x5 st) ∧ ((x5 = 0) → wX3_put_68 post st)
def wX3_put_52 (post : Int32 → MS → Prop) (L5 : Int64 → Int32 → MS → Prop) (x3 : Int64) (x5 : Int32) (st : MS) : Prop :=
  L5 ((x3.toUInt64 >>> ((8 : Int32).toInt64.toUInt64 &&& Int64.toUInt64 63)).toInt64) (x5 + (1 : Int32)) st
def wX3_put_49 (post : Int32 → MS → Prop)   (st : MS) : Prop :=
  post (-2 : Int32) st
def wX3_put_18 (post : Int32 → MS → Prop) (L5 : Int64 → Int32 → MS → Prop) (x3 : Int64) (x5 : Int32) (st : MS) : Prop :=
  vp_in x5 8 ∧ vp_in x5 8 ∧ ∀ r_1 : Int32, qX3_in (((mA st 6 (x5).toNatClampNeg ((x3 &&& (255 : Int64)).toInt32)).1 6 (x5).toNatClampNeg).toInt64) (33 : Int32) (126 : Int32) r_1 → ((¬ r_1 = 0) → wX3_put_52 post L5 x3 x5 (mA st 6 (x5).toNatClampNeg ((x3 &&& (255 : Int64)).toInt32))) ∧ ((r_1 = 0) → wX3_put_49 post (mA st 6 (x5).toNatClampNeg ((x3 &&& (255 : Int64)).toInt32)))
def wX3_put_11 (post : Int32 → MS → Prop) (L5 : Int64 → Int32 → MS → Prop) (x3 : Int64) (x5 : Int32) (st : MS) : Prop :=
  (((8 : Int32) ≤ x5) → wX3_put_63 post x5 st) ∧ ((¬ (8 : Int32) ≤ x5) → wX3_put_18 post L5 x3 x5 st)
def wX3_put_5_b (post : Int32 → MS → Prop) (L5 : Int64 → Int32 → MS → Prop) (x3 : Int64) (x5 : Int32) (st : MS) : Prop :=
  (((lg_cmp x3 (0 : Int64)) = 0) → wX3_put_63 post x5 st) ∧ ((¬ (lg_cmp x3 (0 : Int64)) = 0) → wX3_put_11 post L5 x3 x5 st)
def wX3_put_5 (post : Int32 → MS → Prop)  (x3 : Int64) (x5 : Int32) (st : MS) : Prop :=
  wloop (V := Int64 × Int32 × MS) (fun L v => wX3_put_5_b post (fun x3 x5 st => L (x3, x5, st)) v.1 v.2.1 v.2.2) (x3, x5, st)
def wX3_put_0 (post : Int32 → MS → Prop)  (x1 : Int64) (st : MS) : Prop :=
  wX3_put_5 post x1 (0 : Int32) st
-- wipe()I
def wX3_wipe_0 (post : Int32 → MS → Prop)   (st : MS) : Prop :=
  post (st.2 1) (mF st 1 (0 : Int32))
-- sees(II)Z
def wX3_sees_34 (post : Int32 → MS → Prop)  (s0 : Int32) (st : MS) : Prop :=
  isB s0 ∧ post s0 st
def wX3_sees_33 (post : Int32 → MS → Prop)   (st : MS) : Prop :=
  wX3_sees_34 post (0 : Int32) st
def wX3_sees_29 (post : Int32 → MS → Prop)   (st : MS) : Prop :=
  wX3_sees_34 post (1 : Int32) st
def wX3_sees_11 (post : Int32 → MS → Prop)  (x1 : Int32) (x2 : Int32) (st : MS) : Prop :=
  vp_in (st.2 2) 80 ∧ ∀ r_1 : Int32, qX3_in ((st.1 5 ((st.2 2)).toNatClampNeg).toInt64) x1 x2 r_1 → ((r_1 = 0) → wX3_sees_33 post st) ∧ ((¬ r_1 = 0) → wX3_sees_29 post st)
def wX3_sees_0 (post : Int32 → MS → Prop)  (x1 : Int32) (x2 : Int32) (st : MS) : Prop :=
  (((st.2 1) ≤ (st.2 2)) → wX3_sees_33 post st) ∧ ((¬ (st.2 1) ≤ (st.2 2)) → wX3_sees_11 post x1 x2 st)
-- sign(II)I
def wX3_sign_12 (post : Int32 → MS → Prop)  (x1 : Int32) (st : MS) : Prop :=
  vp_in (((mF st 2 ((st.2 2) + (1 : Int32))).2 2) - (1 : Int32)) 80 ∧ post (((mF st 2 ((st.2 2) + (1 : Int32))).1 5 ((((mF st 2 ((st.2 2) + (1 : Int32))).2 2) - (1 : Int32))).toNatClampNeg) - x1) (mF st 2 ((st.2 2) + (1 : Int32)))
def wX3_sign_9 (post : Int32 → MS → Prop)   (st : MS) : Prop :=
  post (-3 : Int32) st
def wX3_sign_0 (post : Int32 → MS → Prop)  (x1 : Int32) (x2 : Int32) (st : MS) : Prop :=
  pX3_sees x1 x2 st ∧ ∀ r_1 : Int32, qX3_sees x1 x2 st r_1 → ((¬ r_1 = 0) → wX3_sign_12 post x1 st) ∧ ((r_1 = 0) → wX3_sign_9 post st)
-- order(Z)I
def wX3_order_120 (post : Int32 → MS → Prop)   (st : MS) : Prop :=
  post (-3 : Int32) st
def wX3_order_213 (post : Int32 → MS → Prop)  (s0 : Int32) (st : MS) : Prop :=
  post s0 st
def wX3_order_207 (post : Int32 → MS → Prop)  (x5 : Int32) (st : MS) : Prop :=
  pX3_plays x5 st ∧ ∀ (r_1 : Int32) (st_2 : MS), qX3_plays x5 st r_1 st_2 → wX3_order_213 post r_1 st_2
def wX3_order_197 (post : Int32 → MS → Prop)   (st : MS) : Prop :=
  pX3_moves (90 : Int32) (0 : Int32) st ∧ ∀ (r_1 : Int32) (st_2 : MS), qX3_moves (90 : Int32) (0 : Int32) st r_1 st_2 → wX3_order_213 post r_1 st_2
def wX3_order_191 (post : Int32 → MS → Prop)  (x2 : Int32) (x5 : Int32) (st : MS) : Prop :=
  ((¬ x2 = (45 : Int32)) → wX3_order_207 post x5 st) ∧ ((x2 = (45 : Int32)) → wX3_order_197 post st)
def wX3_order_181 (post : Int32 → MS → Prop)  (x3 : Int32) (x4 : Int32) (st : MS) : Prop :=
  pX3_slides x3 x4 st ∧ ∀ (r_1 : Int32) (st_2 : MS), qX3_slides x3 x4 st r_1 st_2 → wX3_order_213 post r_1 st_2
def wX3_order_175 (post : Int32 → MS → Prop)  (x2 : Int32) (x3 : Int32) (x4 : Int32) (x5 : Int32) (st : MS) : Prop :=
  ((¬ x2 = (115 : Int32)) → wX3_order_191 post x2 x5 st) ∧ ((x2 = (115 : Int32)) → wX3_order_181 post x3 x4 st)
def wX3_order_167 (post : Int32 → MS → Prop)  (x3 : Int32) (st : MS) : Prop :=
  pX3_places x3 st ∧ ∀ (r_1 : Int32) (st_2 : MS), qX3_places x3 st r_1 st_2 → wX3_order_213 post r_1 st_2
def wX3_order_161 (post : Int32 → MS → Prop)  (x2 : Int32) (x3 : Int32) (x4 : Int32) (x5 : Int32) (st : MS) : Prop :=
  ((¬ x2 = (112 : Int32)) → wX3_order_175 post x2 x3 x4 x5 st) ∧ ((x2 = (112 : Int32)) → wX3_order_167 post x3 st)
def wX3_order_157 (post : Int32 → MS → Prop)   (st : MS) : Prop :=
  wX3_order_213 post (0 : Int32) st
def wX3_order_153 (post : Int32 → MS → Prop)  (x1 : Int32) (x2 : Int32) (x3 : Int32) (x4 : Int32) (x5 : Int32) (st : MS) : Prop :=
  ((¬ x1 = 0) → wX3_order_161 post x2 x3 x4 x5 st) ∧ ((x1 = 0) → wX3_order_157 post st)
def wX3_order_143 (post : Int32 → MS → Prop)  (x1 : Int32) (x2 : Int32) (x3 : Int32) (x4 : Int32) (st : MS) : Prop :=
  pX3_sign (48 : Int32) (57 : Int32) st ∧ ∀ (r_1 : Int32) (st_2 : MS), qX3_sign (48 : Int32) (57 : Int32) st r_1 st_2 → wX3_order_153 post x1 x2 x3 x4 r_1 st_2
def wX3_order_132 (post : Int32 → MS → Prop)  (x1 : Int32) (x2 : Int32) (x3 : Int32) (x4 : Int32) (x5 : Int32) (st : MS) : Prop :=
  pX3_sees (48 : Int32) (57 : Int32) st ∧ ∀ r_1 : Int32, qX3_sees (48 : Int32) (57 : Int32) st r_1 → ((r_1 = 0) → wX3_order_153 post x1 x2 x3 x4 x5 st) ∧ ((¬ r_1 = 0) → wX3_order_143 post x1 x2 x3 x4 st)
def wX3_order_123 (post : Int32 → MS → Prop)  (x1 : Int32) (x2 : Int32) (x3 : Int32) (x4 : Int32) (st : MS) : Prop :=
  ((¬ x2 = (109 : Int32)) → wX3_order_153 post x1 x2 x3 x4 (1 : Int32) st) ∧ ((x2 = (109 : Int32)) → wX3_order_132 post x1 x2 x3 x4 (1 : Int32) st)
def wX3_order_115 (post : Int32 → MS → Prop)  (x1 : Int32) (x2 : Int32) (x3 : Int32) (x4 : Int32) (st : MS) : Prop :=
  ((0 ≤ x4) → wX3_order_123 post x1 x2 x3 x4 st) ∧ ((¬ 0 ≤ x4) → wX3_order_120 post st)
def wX3_order_109 (post : Int32 → MS → Prop)  (x1 : Int32) (x2 : Int32) (x3 : Int32) (s0 : Int32) (st : MS) : Prop :=
  ((x3 < 0) → wX3_order_120 post st) ∧ ((¬ x3 < 0) → wX3_order_115 post x1 x2 x3 s0 st)
def wX3_order_108 (post : Int32 → MS → Prop)  (x1 : Int32) (x2 : Int32) (x3 : Int32) (st : MS) : Prop :=
  wX3_order_109 post x1 x2 x3 (0 : Int32) st
def wX3_order_97 (post : Int32 → MS → Prop)  (x1 : Int32) (x2 : Int32) (x3 : Int32) (st : MS) : Prop :=
  pX3_sign (49 : Int32) (57 : Int32) st ∧ ∀ (r_1 : Int32) (st_2 : MS), qX3_sign (49 : Int32) (57 : Int32) st r_1 st_2 → wX3_order_109 post x1 x2 x3 r_1 st_2
def wX3_order_93 (post : Int32 → MS → Prop)  (x1 : Int32) (x2 : Int32) (x3 : Int32) (st : MS) : Prop :=
  ((x3 < 0) → wX3_order_108 post x1 x2 x3 st) ∧ ((¬ x3 < 0) → wX3_order_97 post x1 x2 x3 st)
def wX3_order_86 (post : Int32 → MS → Prop)  (x1 : Int32) (x2 : Int32) (s0 : Int32) (st : MS) : Prop :=
  ((¬ x2 = (115 : Int32)) → wX3_order_108 post x1 x2 s0 st) ∧ ((x2 = (115 : Int32)) → wX3_order_93 post x1 x2 s0 st)
def wX3_order_74 (post : Int32 → MS → Prop)  (x1 : Int32) (x2 : Int32) (st : MS) : Prop :=
  pX3_sign (49 : Int32) (57 : Int32) st ∧ ∀ (r_1 : Int32) (st_2 : MS), qX3_sign (49 : Int32) (57 : Int32) st r_1 st_2 → wX3_order_86 post x1 x2 r_1 st_2
def wX3_order_85 (post : Int32 → MS → Prop)  (x1 : Int32) (x2 : Int32) (st : MS) : Prop :=
  wX3_order_86 post x1 x2 (0 : Int32) st
def wX3_order_68 (post : Int32 → MS → Prop)  (x1 : Int32) (x2 : Int32) (st : MS) : Prop :=
  ((¬ x2 = (115 : Int32)) → wX3_order_85 post x1 x2 st) ∧ ((x2 = (115 : Int32)) → wX3_order_74 post x1 x2 st)
def wX3_order_52 (post : Int32 → MS → Prop)  (x1 : Int32) (x2 : Int32) (st : MS) : Prop :=
  ((x2 = (112 : Int32)) → wX3_order_74 post x1 x2 (mF st 2 ((st.2 2) + (1 : Int32)))) ∧ ((¬ x2 = (112 : Int32)) → wX3_order_68 post x1 x2 (mF st 2 ((st.2 2) + (1 : Int32))))
def wX3_order_49 (post : Int32 → MS → Prop)   (st : MS) : Prop :=
  post (-3 : Int32) st
def wX3_order_43 (post : Int32 → MS → Prop)  (x1 : Int32) (x2 : Int32) (st : MS) : Prop :=
  ((x2 = (109 : Int32)) → wX3_order_52 post x1 x2 st) ∧ ((¬ x2 = (109 : Int32)) → wX3_order_49 post st)
def wX3_order_37 (post : Int32 → MS → Prop)  (x1 : Int32) (x2 : Int32) (st : MS) : Prop :=
  ((x2 = (45 : Int32)) → wX3_order_52 post x1 x2 st) ∧ ((¬ x2 = (45 : Int32)) → wX3_order_43 post x1 x2 st)
def wX3_order_31 (post : Int32 → MS → Prop)  (x1 : Int32) (x2 : Int32) (st : MS) : Prop :=
  ((x2 = (115 : Int32)) → wX3_order_52 post x1 x2 st) ∧ ((¬ x2 = (115 : Int32)) → wX3_order_37 post x1 x2 st)
def wX3_order_24 (post : Int32 → MS → Prop)  (x1 : Int32) (s0 : Int32) (st : MS) : Prop :=
  ((s0 = (112 : Int32)) → wX3_order_52 post x1 s0 st) ∧ ((¬ s0 = (112 : Int32)) → wX3_order_31 post x1 s0 st)
def wX3_order_23 (post : Int32 → MS → Prop)  (x1 : Int32) (st : MS) : Prop :=
  wX3_order_24 post x1 (0 : Int32) st
def wX3_order_11 (post : Int32 → MS → Prop)  (x1 : Int32) (st : MS) : Prop :=
  vp_in (st.2 2) 80 ∧ wX3_order_24 post x1 (st.1 5 ((st.2 2)).toNatClampNeg) st
def wX3_order_0 (post : Int32 → MS → Prop)  (x1 : Int32) (st : MS) : Prop :=
  (((st.2 1) ≤ (st.2 2)) → wX3_order_23 post x1 st) ∧ ((¬ (st.2 1) ≤ (st.2 2)) → wX3_order_11 post x1 st)
-- isWell()Z
def wX3_isWell_82 (post : Int32 → MS → Prop)  (x1 : Int32) (st : MS) : Prop :=
  isB x1 ∧ post x1 st
def wX3_isWell_78 (post : Int32 → MS → Prop) (L19 : Int32 → MS → Prop) (s0 : Int32) (st : MS) : Prop :=
  L19 s0 st
def wX3_isWell_77 (post : Int32 → MS → Prop) (L19 : Int32 → MS → Prop)  (st : MS) : Prop :=
  wX3_isWell_78 post L19 (0 : Int32) st
def wX3_isWell_73 (post : Int32 → MS → Prop) (L19 : Int32 → MS → Prop)  (st : MS) : Prop :=
  wX3_isWell_78 post L19 (1 : Int32) st
def wX3_isWell_65 (post : Int32 → MS → Prop) (L19 : Int32 → MS → Prop)  (st : MS) : Prop :=
  pX3_order (0 : Int32) st ∧ ∀ (r_1 : Int32) (st_2 : MS), qX3_order (0 : Int32) st r_1 st_2 → ((¬ r_1 = 0) → wX3_isWell_77 post L19 st_2) ∧ ((r_1 = 0) → wX3_isWell_73 post L19 st_2)
def wX3_isWell_57 (post : Int32 → MS → Prop) (L19 : Int32 → MS → Prop) (x1 : Int32) (s1 : Int32) (s2 : Int32) (st : MS) : Prop :=
  ((x1 = 0) → wX3_isWell_77 post L19 (mF st 2 (s1 + s2))) ∧ ((¬ x1 = 0) → wX3_isWell_65 post L19 (mF st 2 (s1 + s2)))
def wX3_isWell_56 (post : Int32 → MS → Prop) (L19 : Int32 → MS → Prop) (x1 : Int32) (s1 : Int32) (st : MS) : Prop :=
  wX3_isWell_57 post L19 x1 s1 (0 : Int32) st
def wX3_isWell_52 (post : Int32 → MS → Prop) (L19 : Int32 → MS → Prop) (x1 : Int32) (s1 : Int32) (st : MS) : Prop :=
  wX3_isWell_57 post L19 x1 s1 (1 : Int32) st
def wX3_isWell_34 (post : Int32 → MS → Prop) (L19 : Int32 → MS → Prop)  (st : MS) : Prop :=
  pX3_sees (59 : Int32) (59 : Int32) st ∧ ∀ r_1 : Int32, qX3_sees (59 : Int32) (59 : Int32) st r_1 → ((r_1 = 0) → wX3_isWell_56 post L19 r_1 (st.2 2) st) ∧ ((¬ r_1 = 0) → wX3_isWell_52 post L19 r_1 (st.2 2) st)
def wX3_isWell_23 (post : Int32 → MS → Prop) (L19 : Int32 → MS → Prop) (x1 : Int32) (st : MS) : Prop :=
  (((st.2 1) ≤ (st.2 2)) → wX3_isWell_82 post x1 st) ∧ ((¬ (st.2 1) ≤ (st.2 2)) → wX3_isWell_34 post L19 st)
def wX3_isWell_19_b (post : Int32 → MS → Prop) (L19 : Int32 → MS → Prop) (x1 : Int32) (st : MS) : Prop :=
  ((x1 = 0) → wX3_isWell_82 post x1 st) ∧ ((¬ x1 = 0) → wX3_isWell_23 post L19 x1 st)
def wX3_isWell_19 (post : Int32 → MS → Prop)  (x1 : Int32) (st : MS) : Prop :=
  wloop (V := Int32 × MS) (fun L v => wX3_isWell_19_b post (fun x1 st => L (x1, st)) v.1 v.2) (x1, st)
def wX3_isWell_18 (post : Int32 → MS → Prop)  (s0 : Int32) (st : MS) : Prop :=
  wX3_isWell_19 post s0 st
def wX3_isWell_17 (post : Int32 → MS → Prop)   (st : MS) : Prop :=
  wX3_isWell_18 post (0 : Int32) st
def wX3_isWell_13 (post : Int32 → MS → Prop)   (st : MS) : Prop :=
  wX3_isWell_18 post (1 : Int32) st
def wX3_isWell_0 (post : Int32 → MS → Prop)   (st : MS) : Prop :=
  pX3_order (0 : Int32) (mF st 2 (0 : Int32)) ∧ ∀ (r_1 : Int32) (st_2 : MS), qX3_order (0 : Int32) (mF st 2 (0 : Int32)) r_1 st_2 → ((¬ r_1 = 0) → wX3_isWell_17 post st_2) ∧ ((r_1 = 0) → wX3_isWell_13 post st_2)
-- fault()I
def wX3_fault_16 (post : Int32 → MS → Prop)  (s0 : Int32) (st : MS) : Prop :=
  post s0 st
def wX3_fault_12 (post : Int32 → MS → Prop)   (st : MS) : Prop :=
  wX3_fault_16 post (st.2 2) st
def wX3_fault_7 (post : Int32 → MS → Prop)   (st : MS) : Prop :=
  wX3_fault_16 post (-6 : Int32) st
def wX3_fault_0 (post : Int32 → MS → Prop)   (st : MS) : Prop :=
  pX3_isWell  st ∧ ∀ (r_1 : Int32) (st_2 : MS), qX3_isWell  st r_1 st_2 → ((r_1 = 0) → wX3_fault_12 post st_2) ∧ ((¬ r_1 = 0) → wX3_fault_7 post st_2)
-- carryOut()I
def wX3_carryOut_77 (post : Int32 → MS → Prop)  (x1 : Int32) (st : MS) : Prop :=
  pX3_record x1 (mF st 1 (0 : Int32)) ∧ ∀ (r_1 : Int32) (st_2 : MS), qX3_record x1 (mF st 1 (0 : Int32)) r_1 st_2 → post r_1 st_2
def wX3_carryOut_62 (post : Int32 → MS → Prop) (L23 : Int32 → Int32 → MS → Prop) (x2 : Int32) (s0 : Int32) (s1 : Int32) (st : MS) : Prop :=
  L23 (s0 + s1) x2 (mF st 2 ((st.2 2) + (1 : Int32)))
def wX3_carryOut_61 (post : Int32 → MS → Prop) (L23 : Int32 → Int32 → MS → Prop) (x2 : Int32) (s0 : Int32) (st : MS) : Prop :=
  wX3_carryOut_62 post L23 x2 s0 (0 : Int32) st
def wX3_carryOut_57 (post : Int32 → MS → Prop) (L23 : Int32 → Int32 → MS → Prop) (x2 : Int32) (s0 : Int32) (st : MS) : Prop :=
  wX3_carryOut_62 post L23 x2 s0 (1 : Int32) st
def wX3_carryOut_51 (post : Int32 → MS → Prop) (L23 : Int32 → Int32 → MS → Prop) (x1 : Int32) (s0 : Int32) (st : MS) : Prop :=
  ((s0 = 0) → wX3_carryOut_61 post L23 s0 x1 st) ∧ ((¬ s0 = 0) → wX3_carryOut_57 post L23 s0 x1 st)
def wX3_carryOut_50 (post : Int32 → MS → Prop) (L23 : Int32 → Int32 → MS → Prop) (x1 : Int32) (st : MS) : Prop :=
  wX3_carryOut_51 post L23 x1 (0 : Int32) st
def wX3_carryOut_46 (post : Int32 → MS → Prop) (L23 : Int32 → Int32 → MS → Prop) (x1 : Int32) (st : MS) : Prop :=
  wX3_carryOut_51 post L23 x1 (1 : Int32) st
def wX3_carryOut_38 (post : Int32 → MS → Prop) (L23 : Int32 → Int32 → MS → Prop) (x1 : Int32) (st : MS) : Prop :=
  pX3_order (1 : Int32) st ∧ ∀ (r_1 : Int32) (st_2 : MS), qX3_order (1 : Int32) st r_1 st_2 → ((r_1 < 0) → wX3_carryOut_50 post L23 x1 st_2) ∧ ((¬ r_1 < 0) → wX3_carryOut_46 post L23 x1 st_2)
def wX3_carryOut_27 (post : Int32 → MS → Prop) (L23 : Int32 → Int32 → MS → Prop) (x1 : Int32) (st : MS) : Prop :=
  (((st.2 1) ≤ (st.2 2)) → wX3_carryOut_77 post x1 st) ∧ ((¬ (st.2 1) ≤ (st.2 2)) → wX3_carryOut_38 post L23 x1 st)
def wX3_carryOut_23_b (post : Int32 → MS → Prop) (L23 : Int32 → Int32 → MS → Prop) (x1 : Int32) (x2 : Int32) (st : MS) : Prop :=
  ((x2 = 0) → wX3_carryOut_77 post x1 st) ∧ ((¬ x2 = 0) → wX3_carryOut_27 post L23 x1 st)
def wX3_carryOut_23 (post : Int32 → MS → Prop)  (x1 : Int32) (x2 : Int32) (st : MS) : Prop :=
  wloop (V := Int32 × Int32 × MS) (fun L v => wX3_carryOut_23_b post (fun x1 x2 st => L (x1, x2, st)) v.1 v.2.1 v.2.2) (x1, x2, st)
def wX3_carryOut_10 (post : Int32 → MS → Prop)   (st : MS) : Prop :=
  pX3_remember  st ∧ ∀ st_1 : MS, qX3_remember  st st_1 → wX3_carryOut_23 post (0 : Int32) (1 : Int32) (mF st_1 2 (0 : Int32))
def wX3_carryOut_7 (post : Int32 → MS → Prop)   (st : MS) : Prop :=
  post (-3 : Int32) st
def wX3_carryOut_0 (post : Int32 → MS → Prop)   (st : MS) : Prop :=
  pX3_isWell  st ∧ ∀ (r_1 : Int32) (st_2 : MS), qX3_isWell  st r_1 st_2 → ((¬ r_1 = 0) → wX3_carryOut_10 post st_2) ∧ ((r_1 = 0) → wX3_carryOut_7 post st_2)
