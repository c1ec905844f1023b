/-! WP PREDICATES of Rules and Table (S), printed by gen_table.py -/
-- MorrisTables$Table.indexOf(III)I
def wX5_indexOf_0 (post : Int32 → MS → Prop)  (x1 : Int32) (x2 : Int32) (x3 : Int32) (st : MS) : Prop :=
  vp_in x1 512 ∧ vp_in x2 512 ∧ post (((2 : Int32) * ((st.1 1 (x1).toNatClampNeg) + ((2 : Int32) * (st.1 1 (x2).toNatClampNeg)))) + x3) st
-- MorrisTables$Table.worth(III)I
def wX5_worth_0 (post : Int32 → MS → Prop)  (x1 : Int32) (x2 : Int32) (x3 : Int32) (st : MS) : Prop :=
  pX5_indexOf x1 x2 x3 st ∧ ∀ r_1 : Int32, qX5_indexOf x1 x2 x3 st r_1 → vp_in r_1 39366 ∧ post (st.1 2 (r_1).toNatClampNeg) st
-- MorrisTables$Table.first(I)I
def wX5_first_0 (post : Int32 → MS → Prop)  (x1 : Int32) (st : MS) : Prop :=
  vp_in x1 19683 ∧ post ((st.1 3 (x1).toNatClampNeg) &&& (511 : Int32)) st
-- MorrisTables$Table.second(I)I
def wX5_second_0 (post : Int32 → MS → Prop)  (x1 : Int32) (st : MS) : Prop :=
  vp_in x1 19683 ∧ post (((st.1 3 (x1).toNatClampNeg) >>> ((9 : Int32) &&& 31)) &&& (511 : Int32)) st
-- MorrisTables$Table.mover(I)I
def wX5_mover_0 (post : Int32 → MS → Prop)  (x1 : Int32) (st : MS) : Prop :=
  vp_in x1 19683 ∧ post ((st.1 3 (x1).toNatClampNeg) >>> ((18 : Int32) &&& 31)) st
-- MorrisTables$Table.behind(IIII)I
def wX5_behind_31 (post : Int32 → MS → Prop)  (s0 : Int32) (st : MS) : Prop :=
  post s0 st
def wX5_behind_19 (post : Int32 → MS → Prop)  (x1 : Int32) (x2 : Int32) (x4 : Int32) (st : MS) : Prop :=
  ∀ r_1 : Int32, qX4_behind x2 x4 r_1 → pX5_worth x1 r_1 (0 : Int32) st ∧ ∀ r_2 : Int32, qX5_worth x1 r_1 (0 : Int32) st r_2 → wX5_behind_31 post r_2 st
def wX5_behind_4 (post : Int32 → MS → Prop)  (x1 : Int32) (x2 : Int32) (x4 : Int32) (st : MS) : Prop :=
  ∀ r_1 : Int32, qX4_behind x1 x4 r_1 → pX5_worth r_1 x2 (1 : Int32) st ∧ ∀ r_2 : Int32, qX5_worth r_1 x2 (1 : Int32) st r_2 → wX5_behind_31 post r_2 st
def wX5_behind_0 (post : Int32 → MS → Prop)  (x1 : Int32) (x2 : Int32) (x3 : Int32) (x4 : Int32) (st : MS) : Prop :=
  ((¬ x3 = 0) → wX5_behind_19 post x1 x2 x4 st) ∧ ((x3 = 0) → wX5_behind_4 post x1 x2 x4 st)
-- MorrisTables$Table.worthAt(I)I
def wX5_worthAt_0 (post : Int32 → MS → Prop)  (x1 : Int32) (st : MS) : Prop :=
  pX5_first x1 st ∧ ∀ r_1 : Int32, qX5_first x1 st r_1 → pX5_second x1 st ∧ ∀ r_3 : Int32, qX5_second x1 st r_3 → pX5_mover x1 st ∧ ∀ r_5 : Int32, qX5_mover x1 st r_5 → pX5_worth r_1 r_3 r_5 st ∧ ∀ r_7 : Int32, qX5_worth r_1 r_3 r_5 st r_7 → post r_7 st
