/-! WP PREDICATES of Rules and Table (V), printed by gen_table.py -/
-- MorrisTables$Table.greatest(III)I
def wX5_greatest_123 (post : Int32 → MS → Prop)  (x6 : Int32) (st : MS) : Prop :=
  post x6 st
def wX5_greatest_117 (post : Int32 → MS → Prop) (L46 : Int32 → Int32 → Int32 → Int32 → Int32 → Int32 → MS → Prop) (x1 : Int32) (x2 : Int32) (x3 : Int32) (x5 : Int32) (x6 : Int32) (x7 : Int32) (st : MS) : Prop :=
  L46 x1 x2 x3 x5 x6 (x7 + (1 : Int32)) st
def wX5_greatest_83 (post : Int32 → MS → Prop) (L46 : Int32 → Int32 → Int32 → Int32 → Int32 → Int32 → MS → Prop) (x1 : Int32) (x2 : Int32) (x3 : Int32) (x5 : Int32) (x6 : Int32) (x7 : Int32) (s0 : Int32) (st : MS) : Prop :=
  pX5_first x1 st ∧ ∀ r_1 : Int32, qX5_first x1 st r_1 → pX5_second x1 st ∧ ∀ r_3 : Int32, qX5_second x1 st r_3 → pX5_mover x1 st ∧ ∀ r_5 : Int32, qX5_mover x1 st r_5 → pX5_behind r_1 r_3 r_5 s0 st ∧ ∀ r_7 : Int32, qX5_behind r_1 r_3 r_5 s0 st r_7 → ∀ r_9 : Int32, qX5_rank r_7 x3 r_9 → ∀ r_10 : Int32, qJ4_max x6 r_9 r_10 → wX5_greatest_117 post L46 x1 x2 x3 x5 r_10 x7 st
def wX5_greatest_73 (post : Int32 → MS → Prop) (L46 : Int32 → Int32 → Int32 → Int32 → Int32 → Int32 → MS → Prop) (x1 : Int32) (x2 : Int32) (x3 : Int32) (x5 : Int32) (x6 : Int32) (x7 : Int32) (st : MS) : Prop :=
  wX5_greatest_83 post L46 x1 x2 x3 x5 x6 x7 (((9 : Int32) + ((9 : Int32) * x2)) + x7) st
def wX5_greatest_68 (post : Int32 → MS → Prop) (L46 : Int32 → Int32 → Int32 → Int32 → Int32 → Int32 → MS → Prop) (x1 : Int32) (x2 : Int32) (x3 : Int32) (x5 : Int32) (x6 : Int32) (x7 : Int32) (st : MS) : Prop :=
  wX5_greatest_83 post L46 x1 x2 x3 x5 x6 x7 x7 st
def wX5_greatest_64 (post : Int32 → MS → Prop) (L46 : Int32 → Int32 → Int32 → Int32 → Int32 → Int32 → MS → Prop) (x1 : Int32) (x2 : Int32) (x3 : Int32) (x5 : Int32) (x6 : Int32) (x7 : Int32) (st : MS) : Prop :=
  ((0 ≤ x2) → wX5_greatest_73 post L46 x1 x2 x3 x5 x6 x7 st) ∧ ((¬ 0 ≤ x2) → wX5_greatest_68 post L46 x1 x2 x3 x5 x6 x7 st)
def wX5_greatest_53 (post : Int32 → MS → Prop) (L46 : Int32 → Int32 → Int32 → Int32 → Int32 → Int32 → MS → Prop) (x1 : Int32) (x2 : Int32) (x3 : Int32) (x5 : Int32) (x6 : Int32) (x7 : Int32) (st : MS) : Prop :=
  ((¬ ((x5 >>> (x7 &&& 31)) &&& (1 : Int32)) = (1 : Int32)) → wX5_greatest_117 post L46 x1 x2 x3 x5 x6 x7 st) ∧ ((((x5 >>> (x7 &&& 31)) &&& (1 : Int32)) = (1 : Int32)) → wX5_greatest_64 post L46 x1 x2 x3 x5 x6 x7 st)
def wX5_greatest_46_b (post : Int32 → MS → Prop) (L46 : Int32 → Int32 → Int32 → Int32 → Int32 → Int32 → MS → Prop) (x1 : Int32) (x2 : Int32) (x3 : Int32) (x5 : Int32) (x6 : Int32) (x7 : Int32) (st : MS) : Prop :=
  (((9 : Int32) ≤ x7) → wX5_greatest_123 post x6 st) ∧ ((¬ (9 : Int32) ≤ x7) → wX5_greatest_53 post L46 x1 x2 x3 x5 x6 x7 st)
def wX5_greatest_46 (post : Int32 → MS → Prop)  (x1 : Int32) (x2 : Int32) (x3 : Int32) (x5 : Int32) (x6 : Int32) (x7 : Int32) (st : MS) : Prop :=
  wloop (V := Int32 × Int32 × Int32 × Int32 × Int32 × Int32 × MS) (fun L v => wX5_greatest_46_b post (fun x1 x2 x3 x5 x6 x7 st => L (x1, x2, x3, x5, x6, x7, st)) v.1 v.2.1 v.2.2.1 v.2.2.2.1 v.2.2.2.2.1 v.2.2.2.2.2.1 v.2.2.2.2.2.2) (x1, x2, x3, x5, x6, x7, st)
def wX5_greatest_38 (post : Int32 → MS → Prop)  (x1 : Int32) (x2 : Int32) (x3 : Int32) (s0 : Int32) (st : MS) : Prop :=
  wX5_greatest_46 post x1 x2 x3 s0 (0 : Int32) (0 : Int32) st
def wX5_greatest_30 (post : Int32 → MS → Prop)  (x1 : Int32) (x2 : Int32) (x3 : Int32) (x4 : Int32) (st : MS) : Prop :=
  pX4_next x2 st ∧ ∀ r_1 : Int32, qX4_next x2 st r_1 → wX5_greatest_38 post x1 x2 x3 (r_1 &&& x4) st
def wX5_greatest_25 (post : Int32 → MS → Prop)  (x1 : Int32) (x2 : Int32) (x3 : Int32) (x4 : Int32) (st : MS) : Prop :=
  wX5_greatest_38 post x1 x2 x3 x4 st
def wX5_greatest_0 (post : Int32 → MS → Prop)  (x1 : Int32) (x2 : Int32) (x3 : Int32) (st : MS) : Prop :=
  pX5_first x1 st ∧ ∀ r_1 : Int32, qX5_first x1 st r_1 → pX5_second x1 st ∧ ∀ r_3 : Int32, qX5_second x1 st r_3 → ((0 ≤ x2) → wX5_greatest_30 post x1 x2 x3 (((511 : Int32) &&& (r_1 ^^^ (-1 : Int32))) &&& (r_3 ^^^ (-1 : Int32))) st) ∧ ((¬ 0 ≤ x2) → wX5_greatest_25 post x1 x2 x3 (((511 : Int32) &&& (r_1 ^^^ (-1 : Int32))) &&& (r_3 ^^^ (-1 : Int32))) st)
-- MorrisTables$Table.judge(II)I
def wX5_judge_178 (post : Int32 → MS → Prop)  (s0 : Int32) (st : MS) : Prop :=
  post s0 st
def wX5_judge_175 (post : Int32 → MS → Prop)  (x2 : Int32) (st : MS) : Prop :=
  wX5_judge_178 post ((-1 : Int32) - x2) st
def wX5_judge_171 (post : Int32 → MS → Prop)   (st : MS) : Prop :=
  wX5_judge_178 post (0 : Int32) st
def wX5_judge_165 (post : Int32 → MS → Prop)  (x2 : Int32) (x5 : Int32) (st : MS) : Prop :=
  ((¬ x5 = (1 : Int32)) → wX5_judge_175 post x2 st) ∧ ((x5 = (1 : Int32)) → wX5_judge_171 post st)
def wX5_judge_161 (post : Int32 → MS → Prop)  (x2 : Int32) (st : MS) : Prop :=
  wX5_judge_178 post x2 st
def wX5_judge_155 (post : Int32 → MS → Prop)  (x2 : Int32) (x5 : Int32) (st : MS) : Prop :=
  ((¬ x5 = (2 : Int32)) → wX5_judge_165 post x2 x5 st) ∧ ((x5 = (2 : Int32)) → wX5_judge_161 post x2 st)
def wX5_judge_147 (post : Int32 → MS → Prop) (L112 : Int32 → Int32 → Int32 → Int32 → Int32 → MS → Prop) (x1 : Int32) (x2 : Int32) (x3 : Int32) (x6 : Int32) (s0 : Int32) (st : MS) : Prop :=
  L112 x1 x2 x3 s0 (x6 + (1 : Int32)) st
def wX5_judge_145 (post : Int32 → MS → Prop) (L112 : Int32 → Int32 → Int32 → Int32 → Int32 → MS → Prop) (x1 : Int32) (x2 : Int32) (x3 : Int32) (x5 : Int32) (x6 : Int32) (st : MS) : Prop :=
  wX5_judge_147 post L112 x1 x2 x3 x6 x5 st
def wX5_judge_129 (post : Int32 → MS → Prop) (L112 : Int32 → Int32 → Int32 → Int32 → Int32 → MS → Prop) (x1 : Int32) (x2 : Int32) (x3 : Int32) (x5 : Int32) (x6 : Int32) (st : MS) : Prop :=
  pX5_greatest x1 x6 x2 st ∧ ∀ r_1 : Int32, qX5_greatest x1 x6 x2 st r_1 → ∀ r_3 : Int32, qJ4_max x5 r_1 r_3 → wX5_judge_147 post L112 x1 x2 x3 x6 r_3 st
def wX5_judge_119 (post : Int32 → MS → Prop) (L112 : Int32 → Int32 → Int32 → Int32 → Int32 → MS → Prop) (x1 : Int32) (x2 : Int32) (x3 : Int32) (x5 : Int32) (x6 : Int32) (st : MS) : Prop :=
  ((¬ ((x3 >>> (x6 &&& 31)) &&& (1 : Int32)) = (1 : Int32)) → wX5_judge_145 post L112 x1 x2 x3 x5 x6 st) ∧ ((((x3 >>> (x6 &&& 31)) &&& (1 : Int32)) = (1 : Int32)) → wX5_judge_129 post L112 x1 x2 x3 x5 x6 st)
def wX5_judge_112_b (post : Int32 → MS → Prop) (L112 : Int32 → Int32 → Int32 → Int32 → Int32 → MS → Prop) (x1 : Int32) (x2 : Int32) (x3 : Int32) (x5 : Int32) (x6 : Int32) (st : MS) : Prop :=
  (((9 : Int32) ≤ x6) → wX5_judge_155 post x2 x5 st) ∧ ((¬ (9 : Int32) ≤ x6) → wX5_judge_119 post L112 x1 x2 x3 x5 x6 st)
def wX5_judge_112 (post : Int32 → MS → Prop)  (x1 : Int32) (x2 : Int32) (x3 : Int32) (x5 : Int32) (x6 : Int32) (st : MS) : Prop :=
  wloop (V := Int32 × Int32 × Int32 × Int32 × Int32 × MS) (fun L v => wX5_judge_112_b post (fun x1 x2 x3 x5 x6 st => L (x1, x2, x3, x5, x6, st)) v.1 v.2.1 v.2.2.1 v.2.2.2.1 v.2.2.2.2.1 v.2.2.2.2.2) (x1, x2, x3, x5, x6, st)
def wX5_judge_109 (post : Int32 → MS → Prop)  (x1 : Int32) (x2 : Int32) (x3 : Int32) (x5 : Int32) (st : MS) : Prop :=
  wX5_judge_112 post x1 x2 x3 x5 (0 : Int32) st
def wX5_judge_79 (post : Int32 → MS → Prop)  (x1 : Int32) (x2 : Int32) (st : MS) : Prop :=
  pX5_first x1 st ∧ ∀ r_1 : Int32, qX5_first x1 st r_1 → pX5_second x1 st ∧ ∀ r_3 : Int32, qX5_second x1 st r_3 → pX5_mover x1 st ∧ ∀ r_5 : Int32, qX5_mover x1 st r_5 → pX5_behind r_1 r_3 r_5 (90 : Int32) st ∧ ∀ r_7 : Int32, qX5_behind r_1 r_3 r_5 (90 : Int32) st r_7 → ∀ r_9 : Int32, qX5_rank r_7 x2 r_9 → wX5_judge_155 post x2 r_9 st
def wX5_judge_69 (post : Int32 → MS → Prop)  (x1 : Int32) (x2 : Int32) (x3 : Int32) (x4 : Int32) (x5 : Int32) (st : MS) : Prop :=
  pX4_isLocked x3 x4 st ∧ ∀ r_1 : Int32, qX4_isLocked x3 x4 st r_1 → ((r_1 = 0) → wX5_judge_109 post x1 x2 x3 x5 st) ∧ ((¬ r_1 = 0) → wX5_judge_79 post x1 x2 st)
def wX5_judge_56 (post : Int32 → MS → Prop)  (x1 : Int32) (x2 : Int32) (st : MS) : Prop :=
  pX5_greatest x1 (-6 : Int32) x2 st ∧ ∀ r_1 : Int32, qX5_greatest x1 (-6 : Int32) x2 st r_1 → wX5_judge_155 post x2 r_1 st
def wX5_judge_43 (post : Int32 → MS → Prop)  (x1 : Int32) (x2 : Int32) (x3 : Int32) (s0 : Int32) (st : MS) : Prop :=
  ∀ r_1 : Int32, qJ12_bitCount x3 r_1 → (((3 : Int32) ≤ r_1) → wX5_judge_69 post x1 x2 x3 s0 (0 : Int32) st) ∧ ((¬ (3 : Int32) ≤ r_1) → wX5_judge_56 post x1 x2 st)
def wX5_judge_38 (post : Int32 → MS → Prop)  (x1 : Int32) (x2 : Int32) (x3 : Int32) (st : MS) : Prop :=
  pX5_first x1 st ∧ ∀ r_1 : Int32, qX5_first x1 st r_1 → wX5_judge_43 post x1 x2 x3 r_1 st
def wX5_judge_30 (post : Int32 → MS → Prop)  (x1 : Int32) (x2 : Int32) (x3 : Int32) (st : MS) : Prop :=
  pX5_second x1 st ∧ ∀ r_1 : Int32, qX5_second x1 st r_1 → wX5_judge_43 post x1 x2 x3 r_1 st
def wX5_judge_21 (post : Int32 → MS → Prop)  (x1 : Int32) (x2 : Int32) (s0 : Int32) (st : MS) : Prop :=
  pX5_mover x1 st ∧ ∀ r_1 : Int32, qX5_mover x1 st r_1 → ((¬ r_1 = 0) → wX5_judge_38 post x1 x2 s0 st) ∧ ((r_1 = 0) → wX5_judge_30 post x1 x2 s0 st)
def wX5_judge_16 (post : Int32 → MS → Prop)  (x1 : Int32) (x2 : Int32) (st : MS) : Prop :=
  pX5_second x1 st ∧ ∀ r_1 : Int32, qX5_second x1 st r_1 → wX5_judge_21 post x1 x2 r_1 st
def wX5_judge_8 (post : Int32 → MS → Prop)  (x1 : Int32) (x2 : Int32) (st : MS) : Prop :=
  pX5_first x1 st ∧ ∀ r_1 : Int32, qX5_first x1 st r_1 → wX5_judge_21 post x1 x2 r_1 st
def wX5_judge_0 (post : Int32 → MS → Prop)  (x1 : Int32) (x2 : Int32) (st : MS) : Prop :=
  pX5_mover x1 st ∧ ∀ r_1 : Int32, qX5_mover x1 st r_1 → ((¬ r_1 = 0) → wX5_judge_16 post x1 x2 st) ∧ ((r_1 = 0) → wX5_judge_8 post x1 x2 st)
