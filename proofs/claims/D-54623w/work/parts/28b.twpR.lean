/-! WP PREDICATES of Rules and Table (R), printed by gen_table.py -/
-- MorrisTables$Rules.next(I)I
def wX4_next_0 (post : Int32 → MS → Prop)  (x1 : Int32) (st : MS) : Prop :=
  vp_in x1 9 ∧ post (st.1 0 (x1).toNatClampNeg) st
-- MorrisTables$Rules.hasLine(I)Z
def wX4_hasLine_41 (post : Int32 → MS → Prop)  (x2 : Int32) (st : MS) : Prop :=
  isB x2 ∧ post x2 st
def wX4_hasLine_33 (post : Int32 → MS → Prop) (L4 : Int32 → Int32 → Int32 → MS → Prop) (x1 : Int32) (x3 : Int32) (s0 : Int32) (s1 : Int32) (st : MS) : Prop :=
  L4 x1 (s0 ||| s1) (x3 + (1 : Int32)) st
def wX4_hasLine_32 (post : Int32 → MS → Prop) (L4 : Int32 → Int32 → Int32 → MS → Prop) (x1 : Int32) (x3 : Int32) (s0 : Int32) (st : MS) : Prop :=
  wX4_hasLine_33 post L4 x1 x3 s0 (0 : Int32) st
def wX4_hasLine_28 (post : Int32 → MS → Prop) (L4 : Int32 → Int32 → Int32 → MS → Prop) (x1 : Int32) (x3 : Int32) (s0 : Int32) (st : MS) : Prop :=
  wX4_hasLine_33 post L4 x1 x3 s0 (1 : Int32) st
def wX4_hasLine_12 (post : Int32 → MS → Prop) (L4 : Int32 → Int32 → Int32 → MS → Prop) (x1 : Int32) (x2 : Int32) (x3 : Int32) (st : MS) : Prop :=
  vp_in x3 8 ∧ vp_in x3 8 ∧ ((¬ (x1 &&& (nI (lnN (x3).toNatClampNeg))) = (nI (lnN (x3).toNatClampNeg))) → wX4_hasLine_32 post L4 x1 x3 x2 st) ∧ (((x1 &&& (nI (lnN (x3).toNatClampNeg))) = (nI (lnN (x3).toNatClampNeg))) → wX4_hasLine_28 post L4 x1 x3 x2 st)
def wX4_hasLine_4_b (post : Int32 → MS → Prop) (L4 : Int32 → Int32 → Int32 → MS → Prop) (x1 : Int32) (x2 : Int32) (x3 : Int32) (st : MS) : Prop :=
  (((st.2 0) ≤ x3) → wX4_hasLine_41 post x2 st) ∧ ((¬ (st.2 0) ≤ x3) → wX4_hasLine_12 post L4 x1 x2 x3 st)
def wX4_hasLine_4 (post : Int32 → MS → Prop)  (x1 : Int32) (x2 : Int32) (x3 : Int32) (st : MS) : Prop :=
  wloop (V := Int32 × Int32 × Int32 × MS) (fun L v => wX4_hasLine_4_b post (fun x1 x2 x3 st => L (x1, x2, x3, st)) v.1 v.2.1 v.2.2.1 v.2.2.2) (x1, x2, x3, st)
def wX4_hasLine_0 (post : Int32 → MS → Prop)  (x1 : Int32) (st : MS) : Prop :=
  wX4_hasLine_4 post x1 (0 : Int32) (0 : Int32) st
-- MorrisTables$Rules.isLocked(II)Z
def wX4_isLocked_67 (post : Int32 → MS → Prop)  (s0 : Int32) (st : MS) : Prop :=
  isB s0 ∧ post s0 st
def wX4_isLocked_66 (post : Int32 → MS → Prop)   (st : MS) : Prop :=
  wX4_isLocked_67 post (0 : Int32) st
def wX4_isLocked_62 (post : Int32 → MS → Prop)   (st : MS) : Prop :=
  wX4_isLocked_67 post (1 : Int32) st
def wX4_isLocked_50 (post : Int32 → MS → Prop)  (x1 : Int32) (x2 : Int32) (x3 : Int32) (st : MS) : Prop :=
  ((¬ ((x3 &&& (x1 ^^^ (-1 : Int32))) &&& (x2 ^^^ (-1 : Int32))) = 0) → wX4_isLocked_66 post st) ∧ ((((x3 &&& (x1 ^^^ (-1 : Int32))) &&& (x2 ^^^ (-1 : Int32))) = 0) → wX4_isLocked_62 post st)
def wX4_isLocked_42 (post : Int32 → MS → Prop)  (x1 : Int32) (x2 : Int32) (x3 : Int32) (st : MS) : Prop :=
  ∀ r_1 : Int32, qJ12_bitCount x1 r_1 → ((¬ r_1 = (3 : Int32)) → wX4_isLocked_66 post st) ∧ ((r_1 = (3 : Int32)) → wX4_isLocked_50 post x1 x2 x3 st)
def wX4_isLocked_34 (post : Int32 → MS → Prop) (L5 : Int32 → Int32 → Int32 → Int32 → MS → Prop) (x1 : Int32) (x2 : Int32) (x4 : Int32) (s0 : Int32) (s1 : Int32) (st : MS) : Prop :=
  L5 x1 x2 (s0 ||| s1) (x4 + (1 : Int32)) st
def wX4_isLocked_33 (post : Int32 → MS → Prop) (L5 : Int32 → Int32 → Int32 → Int32 → MS → Prop) (x1 : Int32) (x2 : Int32) (x4 : Int32) (s0 : Int32) (st : MS) : Prop :=
  wX4_isLocked_34 post L5 x1 x2 x4 s0 (0 : Int32) st
def wX4_isLocked_23 (post : Int32 → MS → Prop) (L5 : Int32 → Int32 → Int32 → Int32 → MS → Prop) (x1 : Int32) (x2 : Int32) (x4 : Int32) (s0 : Int32) (st : MS) : Prop :=
  vp_in x4 9 ∧ wX4_isLocked_34 post L5 x1 x2 x4 s0 (st.1 0 (x4).toNatClampNeg) st
def wX4_isLocked_12 (post : Int32 → MS → Prop) (L5 : Int32 → Int32 → Int32 → Int32 → MS → Prop) (x1 : Int32) (x2 : Int32) (x3 : Int32) (x4 : Int32) (st : MS) : Prop :=
  ((¬ ((x1 >>> (x4 &&& 31)) &&& (1 : Int32)) = (1 : Int32)) → wX4_isLocked_33 post L5 x1 x2 x4 x3 st) ∧ ((((x1 >>> (x4 &&& 31)) &&& (1 : Int32)) = (1 : Int32)) → wX4_isLocked_23 post L5 x1 x2 x4 x3 st)
def wX4_isLocked_5_b (post : Int32 → MS → Prop) (L5 : Int32 → Int32 → Int32 → Int32 → MS → Prop) (x1 : Int32) (x2 : Int32) (x3 : Int32) (x4 : Int32) (st : MS) : Prop :=
  (((9 : Int32) ≤ x4) → wX4_isLocked_42 post x1 x2 x3 st) ∧ ((¬ (9 : Int32) ≤ x4) → wX4_isLocked_12 post L5 x1 x2 x3 x4 st)
def wX4_isLocked_5 (post : Int32 → MS → Prop)  (x1 : Int32) (x2 : Int32) (x3 : Int32) (x4 : Int32) (st : MS) : Prop :=
  wloop (V := Int32 × Int32 × Int32 × Int32 × MS) (fun L v => wX4_isLocked_5_b post (fun x1 x2 x3 x4 st => L (x1, x2, x3, x4, st)) v.1 v.2.1 v.2.2.1 v.2.2.2.1 v.2.2.2.2) (x1, x2, x3, x4, st)
def wX4_isLocked_0 (post : Int32 → MS → Prop)  (x1 : Int32) (x2 : Int32) (st : MS) : Prop :=
  wX4_isLocked_5 post x1 x2 (0 : Int32) (0 : Int32) st
-- MorrisTables$Rules.isPlain(III)Z
def wX4_isPlain_109 (post : Int32 → MS → Prop)  (s0 : Int32) (st : MS) : Prop :=
  isB s0 ∧ post s0 st
def wX4_isPlain_108 (post : Int32 → MS → Prop)   (st : MS) : Prop :=
  wX4_isPlain_109 post (0 : Int32) st
def wX4_isPlain_104 (post : Int32 → MS → Prop)   (st : MS) : Prop :=
  wX4_isPlain_109 post (1 : Int32) st
def wX4_isPlain_85 (post : Int32 → MS → Prop)  (x4 : Int32) (x5 : Int32) (x6 : Int32) (st : MS) : Prop :=
  vp_in x5 9 ∧ ((¬ ((((st.1 0 (x5).toNatClampNeg) &&& x4) >>> (x6 &&& 31)) &&& (1 : Int32)) = (1 : Int32)) → wX4_isPlain_108 post st) ∧ ((((((st.1 0 (x5).toNatClampNeg) &&& x4) >>> (x6 &&& 31)) &&& (1 : Int32)) = (1 : Int32)) → wX4_isPlain_104 post st)
def wX4_isPlain_75 (post : Int32 → MS → Prop)  (x1 : Int32) (x4 : Int32) (x5 : Int32) (x6 : Int32) (st : MS) : Prop :=
  ((¬ ((x1 >>> (x5 &&& 31)) &&& (1 : Int32)) = (1 : Int32)) → wX4_isPlain_108 post st) ∧ ((((x1 >>> (x5 &&& 31)) &&& (1 : Int32)) = (1 : Int32)) → wX4_isPlain_85 post x4 x5 x6 st)
def wX4_isPlain_67 (post : Int32 → MS → Prop)  (x1 : Int32) (x4 : Int32) (x5 : Int32) (x6 : Int32) (st : MS) : Prop :=
  ∀ r_1 : Int32, qJ12_bitCount x1 r_1 → ((¬ r_1 = (3 : Int32)) → wX4_isPlain_108 post st) ∧ ((r_1 = (3 : Int32)) → wX4_isPlain_75 post x1 x4 x5 x6 st)
def wX4_isPlain_43 (post : Int32 → MS → Prop)  (x1 : Int32) (x3 : Int32) (x4 : Int32) (st : MS) : Prop :=
  (((90 : Int32) ≤ x3) → wX4_isPlain_108 post st) ∧ ((¬ (90 : Int32) ≤ x3) → wX4_isPlain_67 post x1 x4 ((x3 - (9 : Int32)) / (9 : Int32)) (irm (x3 - (9 : Int32)) (9 : Int32)) st)
def wX4_isPlain_42 (post : Int32 → MS → Prop)  (s0 : Int32) (st : MS) : Prop :=
  isB s0 ∧ post s0 st
def wX4_isPlain_41 (post : Int32 → MS → Prop)   (st : MS) : Prop :=
  wX4_isPlain_42 post (0 : Int32) st
def wX4_isPlain_37 (post : Int32 → MS → Prop)   (st : MS) : Prop :=
  wX4_isPlain_42 post (1 : Int32) st
def wX4_isPlain_27 (post : Int32 → MS → Prop)  (x3 : Int32) (x4 : Int32) (st : MS) : Prop :=
  ((¬ ((x4 >>> (x3 &&& 31)) &&& (1 : Int32)) = (1 : Int32)) → wX4_isPlain_41 post st) ∧ ((((x4 >>> (x3 &&& 31)) &&& (1 : Int32)) = (1 : Int32)) → wX4_isPlain_37 post st)
def wX4_isPlain_19 (post : Int32 → MS → Prop)  (x1 : Int32) (x3 : Int32) (x4 : Int32) (st : MS) : Prop :=
  ∀ r_1 : Int32, qJ12_bitCount x1 r_1 → (((3 : Int32) ≤ r_1) → wX4_isPlain_41 post st) ∧ ((¬ (3 : Int32) ≤ r_1) → wX4_isPlain_27 post x3 x4 st)
def wX4_isPlain_0 (post : Int32 → MS → Prop)  (x1 : Int32) (x2 : Int32) (x3 : Int32) (st : MS) : Prop :=
  (((9 : Int32) ≤ x3) → wX4_isPlain_43 post x1 x3 (((511 : Int32) &&& (x1 ^^^ (-1 : Int32))) &&& (x2 ^^^ (-1 : Int32))) st) ∧ ((¬ (9 : Int32) ≤ x3) → wX4_isPlain_19 post x1 x3 (((511 : Int32) &&& (x1 ^^^ (-1 : Int32))) &&& (x2 ^^^ (-1 : Int32))) st)
-- MorrisTables$Rules.hasLost(II)Z
def wX4_hasLost_29 (post : Int32 → MS → Prop)  (s0 : Int32) (st : MS) : Prop :=
  isB s0 ∧ post s0 st
def wX4_hasLost_24 (post : Int32 → MS → Prop)   (st : MS) : Prop :=
  wX4_hasLost_29 post (1 : Int32) st
def wX4_hasLost_28 (post : Int32 → MS → Prop)   (st : MS) : Prop :=
  wX4_hasLost_29 post (0 : Int32) st
def wX4_hasLost_15 (post : Int32 → MS → Prop)  (x1 : Int32) (x2 : Int32) (st : MS) : Prop :=
  pX4_isLocked x1 x2 st ∧ ∀ r_1 : Int32, qX4_isLocked x1 x2 st r_1 → ((r_1 = 0) → wX4_hasLost_28 post st) ∧ ((¬ r_1 = 0) → wX4_hasLost_24 post st)
def wX4_hasLost_8 (post : Int32 → MS → Prop)  (x1 : Int32) (x2 : Int32) (st : MS) : Prop :=
  (((st.2 1) = 0) → wX4_hasLost_28 post st) ∧ ((¬ (st.2 1) = 0) → wX4_hasLost_15 post x1 x2 st)
def wX4_hasLost_0 (post : Int32 → MS → Prop)  (x1 : Int32) (x2 : Int32) (st : MS) : Prop :=
  pX4_hasLine x2 st ∧ ∀ r_1 : Int32, qX4_hasLine x2 st r_1 → ((¬ r_1 = 0) → wX4_hasLost_24 post st) ∧ ((r_1 = 0) → wX4_hasLost_8 post x1 x2 st)
-- MorrisTables$Rules.isMove(III)Z
def wX4_isMove_19 (post : Int32 → MS → Prop)   (st : MS) : Prop :=
  isB (0 : Int32) ∧ post (0 : Int32) st
def wX4_isMove_43 (post : Int32 → MS → Prop)  (s0 : Int32) (st : MS) : Prop :=
  isB s0 ∧ post s0 st
def wX4_isMove_36 (post : Int32 → MS → Prop)  (x1 : Int32) (x2 : Int32) (x3 : Int32) (st : MS) : Prop :=
  pX4_isPlain x1 x2 x3 st ∧ ∀ r_1 : Int32, qX4_isPlain x1 x2 x3 st r_1 → wX4_isMove_43 post r_1 st
def wX4_isMove_27 (post : Int32 → MS → Prop)  (x1 : Int32) (x2 : Int32) (st : MS) : Prop :=
  pX4_isLocked x1 x2 st ∧ ∀ r_1 : Int32, qX4_isLocked x1 x2 st r_1 → wX4_isMove_43 post r_1 st
def wX4_isMove_21 (post : Int32 → MS → Prop)  (x1 : Int32) (x2 : Int32) (x3 : Int32) (st : MS) : Prop :=
  ((¬ x3 = (90 : Int32)) → wX4_isMove_36 post x1 x2 x3 st) ∧ ((x3 = (90 : Int32)) → wX4_isMove_27 post x1 x2 st)
def wX4_isMove_9 (post : Int32 → MS → Prop)  (x1 : Int32) (x2 : Int32) (x3 : Int32) (st : MS) : Prop :=
  ∀ r_1 : Int32, qX0_isIn x3 (0 : Int32) (90 : Int32) r_1 → ((¬ r_1 = 0) → wX4_isMove_21 post x1 x2 x3 st) ∧ ((r_1 = 0) → wX4_isMove_19 post st)
def wX4_isMove_0 (post : Int32 → MS → Prop)  (x1 : Int32) (x2 : Int32) (x3 : Int32) (st : MS) : Prop :=
  pX4_hasLost x1 x2 st ∧ ∀ r_1 : Int32, qX4_hasLost x1 x2 st r_1 → ((¬ r_1 = 0) → wX4_isMove_19 post st) ∧ ((r_1 = 0) → wX4_isMove_9 post x1 x2 x3 st)
-- MorrisTables$Rules.isLegal(III)Z
def wX4_isLegal_100 (post : Int32 → MS → Prop)  (s0 : Int32) (st : MS) : Prop :=
  isB s0 ∧ post s0 st
def wX4_isLegal_99 (post : Int32 → MS → Prop)   (st : MS) : Prop :=
  wX4_isLegal_100 post (0 : Int32) st
def wX4_isLegal_95 (post : Int32 → MS → Prop)   (st : MS) : Prop :=
  wX4_isLegal_100 post (1 : Int32) st
def wX4_isLegal_89 (post : Int32 → MS → Prop)  (s1 : Int32) (st : MS) : Prop :=
  pX4_hasLine s1 st ∧ ∀ r_1 : Int32, qX4_hasLine s1 st r_1 → ((¬ r_1 = 0) → wX4_isLegal_99 post st) ∧ ((r_1 = 0) → wX4_isLegal_95 post st)
def wX4_isLegal_88 (post : Int32 → MS → Prop)  (x2 : Int32) (st : MS) : Prop :=
  wX4_isLegal_89 post x2 st
def wX4_isLegal_84 (post : Int32 → MS → Prop)  (x1 : Int32) (st : MS) : Prop :=
  wX4_isLegal_89 post x1 st
def wX4_isLegal_79 (post : Int32 → MS → Prop)  (x1 : Int32) (x2 : Int32) (x3 : Int32) (st : MS) : Prop :=
  ((¬ x3 = 0) → wX4_isLegal_88 post x2 st) ∧ ((x3 = 0) → wX4_isLegal_84 post x1 st)
def wX4_isLegal_73 (post : Int32 → MS → Prop)  (x1 : Int32) (x2 : Int32) (x3 : Int32) (st : MS) : Prop :=
  ((¬ (x1 &&& x2) = 0) → wX4_isLegal_99 post st) ∧ (((x1 &&& x2) = 0) → wX4_isLegal_79 post x1 x2 x3 st)
def wX4_isLegal_66 (post : Int32 → MS → Prop)  (x1 : Int32) (x2 : Int32) (x3 : Int32) (s0 : Int32) (st : MS) : Prop :=
  ((s0 = 0) → wX4_isLegal_99 post st) ∧ ((¬ s0 = 0) → wX4_isLegal_73 post x1 x2 x3 st)
def wX4_isLegal_65 (post : Int32 → MS → Prop)  (x1 : Int32) (x2 : Int32) (x3 : Int32) (st : MS) : Prop :=
  wX4_isLegal_66 post x1 x2 x3 (0 : Int32) st
def wX4_isLegal_61 (post : Int32 → MS → Prop)  (x1 : Int32) (x2 : Int32) (x3 : Int32) (st : MS) : Prop :=
  wX4_isLegal_66 post x1 x2 x3 (1 : Int32) st
def wX4_isLegal_55 (post : Int32 → MS → Prop)  (x1 : Int32) (x2 : Int32) (x3 : Int32) (x5 : Int32) (st : MS) : Prop :=
  ((¬ x5 = (3 : Int32)) → wX4_isLegal_65 post x1 x2 x3 st) ∧ ((x5 = (3 : Int32)) → wX4_isLegal_61 post x1 x2 x3 st)
def wX4_isLegal_49 (post : Int32 → MS → Prop)  (x1 : Int32) (x2 : Int32) (x3 : Int32) (x4 : Int32) (x5 : Int32) (st : MS) : Prop :=
  ((¬ x4 = (3 : Int32)) → wX4_isLegal_65 post x1 x2 x3 st) ∧ ((x4 = (3 : Int32)) → wX4_isLegal_55 post x1 x2 x3 x5 st)
def wX4_isLegal_44 (post : Int32 → MS → Prop)  (x1 : Int32) (x2 : Int32) (x3 : Int32) (x4 : Int32) (x5 : Int32) (st : MS) : Prop :=
  ((x3 = (1 : Int32)) → wX4_isLegal_61 post x1 x2 x3 st) ∧ ((¬ x3 = (1 : Int32)) → wX4_isLegal_49 post x1 x2 x3 x4 x5 st)
def wX4_isLegal_38 (post : Int32 → MS → Prop)  (x1 : Int32) (x2 : Int32) (x3 : Int32) (x4 : Int32) (x5 : Int32) (st : MS) : Prop :=
  (((3 : Int32) < x4) → wX4_isLegal_49 post x1 x2 x3 x4 x5 st) ∧ ((¬ (3 : Int32) < x4) → wX4_isLegal_44 post x1 x2 x3 x4 x5 st)
def wX4_isLegal_29 (post : Int32 → MS → Prop)  (x1 : Int32) (x2 : Int32) (x3 : Int32) (x4 : Int32) (x5 : Int32) (st : MS) : Prop :=
  ((¬ x4 = (x5 + (1 : Int32))) → wX4_isLegal_49 post x1 x2 x3 x4 x5 st) ∧ ((x4 = (x5 + (1 : Int32))) → wX4_isLegal_38 post x1 x2 x3 x4 x5 st)
def wX4_isLegal_25 (post : Int32 → MS → Prop)  (x1 : Int32) (x2 : Int32) (x3 : Int32) (x4 : Int32) (x5 : Int32) (st : MS) : Prop :=
  ((x3 = 0) → wX4_isLegal_61 post x1 x2 x3 st) ∧ ((¬ x3 = 0) → wX4_isLegal_29 post x1 x2 x3 x4 x5 st)
def wX4_isLegal_19 (post : Int32 → MS → Prop)  (x1 : Int32) (x2 : Int32) (x3 : Int32) (x4 : Int32) (x5 : Int32) (st : MS) : Prop :=
  (((3 : Int32) ≤ x4) → wX4_isLegal_29 post x1 x2 x3 x4 x5 st) ∧ ((¬ (3 : Int32) ≤ x4) → wX4_isLegal_25 post x1 x2 x3 x4 x5 st)
def wX4_isLegal_0 (post : Int32 → MS → Prop)  (x1 : Int32) (x2 : Int32) (x3 : Int32) (st : MS) : Prop :=
  ∀ r_1 : Int32, qJ12_bitCount x1 r_1 → ∀ r_2 : Int32, qJ12_bitCount x2 r_2 → ((¬ r_1 = r_2) → wX4_isLegal_29 post x1 x2 x3 r_1 r_2 st) ∧ ((r_1 = r_2) → wX4_isLegal_19 post x1 x2 x3 r_1 r_2 st)
