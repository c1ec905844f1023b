/-! WP PREDICATES of the reference's methods, printed by gen_model.py: one a block, loops by wloop -/
-- found(III)I
def wX3_found_96 (post : Int32 → MS → Prop)  (s0 : Int32) (st : MS) : Prop :=
  post s0 st
def wX3_found_93 (post : Int32 → MS → Prop)   (st : MS) : Prop :=
  wX3_found_96 post (1000 : Int32) st
def wX3_found_87 (post : Int32 → MS → Prop)  (x3 : Int32) (st : MS) : Prop :=
  wX3_found_96 post ((-1 : Int32) - x3) st
def wX3_found_82 (post : Int32 → MS → Prop)  (x3 : Int32) (x4 : Int32) (st : MS) : Prop :=
  ((x4 = 0) → wX3_found_93 post st) ∧ ((¬ x4 = 0) → wX3_found_87 post x3 st)
def wX3_found_74 (post : Int32 → MS → Prop) (L15 : Int32 → Int32 → Int32 → Int32 → MS → Prop) (x1 : Int32) (x3 : Int32) (x5 : Int32) (s0 : Int32) (st : MS) : Prop :=
  L15 x1 x3 s0 (x5 + (1 : Int32)) st
def wX3_found_73 (post : Int32 → MS → Prop) (L15 : Int32 → Int32 → Int32 → Int32 → MS → Prop) (x1 : Int32) (x3 : Int32) (x5 : Int32) (st : MS) : Prop :=
  wX3_found_74 post L15 x1 x3 x5 (0 : Int32) st
def wX3_found_69 (post : Int32 → MS → Prop) (L15 : Int32 → Int32 → Int32 → Int32 → MS → Prop) (x1 : Int32) (x3 : Int32) (x5 : Int32) (st : MS) : Prop :=
  wX3_found_74 post L15 x1 x3 x5 (1 : Int32) st
def wX3_found_63 (post : Int32 → MS → Prop) (L15 : Int32 → Int32 → Int32 → Int32 → MS → Prop) (x1 : Int32) (x3 : Int32) (x5 : Int32) (x6 : Int32) (st : MS) : Prop :=
  ((x3 ≤ x6) → wX3_found_73 post L15 x1 x3 x5 st) ∧ ((¬ x3 ≤ x6) → wX3_found_69 post L15 x1 x3 x5 st)
def wX3_found_58 (post : Int32 → MS → Prop) (L15 : Int32 → Int32 → Int32 → Int32 → MS → Prop) (x1 : Int32) (x3 : Int32) (x5 : Int32) (x6 : Int32) (st : MS) : Prop :=
  ((x6 ≤ 0) → wX3_found_73 post L15 x1 x3 x5 st) ∧ ((¬ x6 ≤ 0) → wX3_found_63 post L15 x1 x3 x5 x6 st)
def wX3_found_53 (post : Int32 → MS → Prop) (L15 : Int32 → Int32 → Int32 → Int32 → MS → Prop) (x1 : Int32) (x3 : Int32) (x4 : Int32) (x5 : Int32) (x6 : Int32) (st : MS) : Prop :=
  ((x4 = 0) → wX3_found_73 post L15 x1 x3 x5 st) ∧ ((¬ x4 = 0) → wX3_found_58 post L15 x1 x3 x5 x6 st)
def wX3_found_51 (post : Int32 → MS → Prop)  (x3 : Int32) (st : MS) : Prop :=
  post x3 st
def wX3_found_24 (post : Int32 → MS → Prop) (L15 : Int32 → Int32 → Int32 → Int32 → MS → Prop) (x1 : Int32) (x3 : Int32) (x4 : Int32) (x5 : Int32) (st : MS) : Prop :=
  vp_in x5 40 ∧ pX3_next (st.1 8 (x5).toNatClampNeg) st ∧ ∀ (r_1 : Int32) (st_2 : MS), qX3_next (st.1 8 (x5).toNatClampNeg) st r_1 st_2 → vp_in (x1 + r_1) 157464 ∧ ((¬ (st_2.1 9 ((x1 + r_1)).toNatClampNeg) = (-x3)) → wX3_found_53 post L15 x1 x3 x4 x5 (st_2.1 9 ((x1 + r_1)).toNatClampNeg) st_2) ∧ (((st_2.1 9 ((x1 + r_1)).toNatClampNeg) = (-x3)) → wX3_found_51 post x3 st_2)
def wX3_found_15_b (post : Int32 → MS → Prop) (L15 : Int32 → Int32 → Int32 → Int32 → MS → Prop) (x1 : Int32) (x3 : Int32) (x4 : Int32) (x5 : Int32) (st : MS) : Prop :=
  (((st.2 4) ≤ x5) → wX3_found_82 post x3 x4 st) ∧ ((¬ (st.2 4) ≤ x5) → wX3_found_24 post L15 x1 x3 x4 x5 st)
def wX3_found_15 (post : Int32 → MS → Prop)  (x1 : Int32) (x3 : Int32) (x4 : Int32) (x5 : Int32) (st : MS) : Prop :=
  wloop (V := Int32 × Int32 × Int32 × Int32 × MS) (fun L v => wX3_found_15_b post (fun x1 x3 x4 x5 st => L (x1, x3, x4, x5, st)) v.1 v.2.1 v.2.2.1 v.2.2.2.1 v.2.2.2.2) (x1, x3, x4, x5, st)
def wX3_found_0 (post : Int32 → MS → Prop)  (x1 : Int32) (x2 : Int32) (x3 : Int32) (st : MS) : Prop :=
  pX3_open x2 st ∧ ∀ st_1 : MS, qX3_open x2 st st_1 → pX3_look  st_1 ∧ ∀ st_2 : MS, qX3_look  st_1 st_2 → wX3_found_15 post x1 x3 (1 : Int32) (0 : Int32) st_2
-- make(I)V
def wX3_make_270 (post : MS → Prop)   (st : MS) : Prop :=
  post st
def wX3_make_263 (post : MS → Prop) (L228 : Int32 → Int32 → MS → Prop) (x1 : Int32) (x3 : Int32) (s1 : Int32) (s2 : Int32) (st : MS) : Prop :=
  vp_in s1 157464 ∧ L228 x1 (x3 + (1 : Int32)) (mA st 9 (s1).toNatClampNeg s2)
def wX3_make_257 (post : MS → Prop) (L228 : Int32 → Int32 → MS → Prop) (x1 : Int32) (x3 : Int32) (s1 : Int32) (st : MS) : Prop :=
  vp_in x3 157464 ∧ wX3_make_263 post L228 x1 x3 s1 (st.1 9 (x3).toNatClampNeg) st
def wX3_make_253 (post : MS → Prop) (L228 : Int32 → Int32 → MS → Prop) (x1 : Int32) (x3 : Int32) (s1 : Int32) (st : MS) : Prop :=
  wX3_make_263 post L228 x1 x3 s1 (0 : Int32) st
def wX3_make_236 (post : MS → Prop) (L228 : Int32 → Int32 → MS → Prop) (x1 : Int32) (x3 : Int32) (st : MS) : Prop :=
  vp_in x3 157464 ∧ ((¬ (st.1 9 (x3).toNatClampNeg) = (1000 : Int32)) → wX3_make_257 post L228 x1 x3 x3 st) ∧ (((st.1 9 (x3).toNatClampNeg) = (1000 : Int32)) → wX3_make_253 post L228 x1 x3 x3 st)
def wX3_make_228_b (post : MS → Prop) (L228 : Int32 → Int32 → MS → Prop) (x1 : Int32) (x3 : Int32) (st : MS) : Prop :=
  (((x1 + (39366 : Int32)) ≤ x3) → wX3_make_270 post st) ∧ ((¬ (x1 + (39366 : Int32)) ≤ x3) → wX3_make_236 post L228 x1 x3 st)
def wX3_make_228 (post : MS → Prop)  (x1 : Int32) (x3 : Int32) (st : MS) : Prop :=
  wloop (V := Int32 × Int32 × MS) (fun L v => wX3_make_228_b post (fun x1 x3 st => L (x1, x3, st)) v.1 v.2.1 v.2.2) (x1, x3, st)
def wX3_make_226 (post : MS → Prop)  (x1 : Int32) (st : MS) : Prop :=
  wX3_make_228 post x1 x1 st
def wX3_make_220 (post : MS → Prop) (L64 : Int32 → Int32 → Int32 → MS → Prop) (x1 : Int32) (x2 : Int32) (x3 : Int32) (st : MS) : Prop :=
  L64 x1 x2 (x3 + (1 : Int32)) st
def wX3_make_212 (post : MS → Prop) (L156 : Int32 → Int32 → Int32 → Int32 → MS → Prop) (x1 : Int32) (x2 : Int32) (x3 : Int32) (x4 : Int32) (s1 : Int32) (s2 : Int32) (s3 : Int32) (st : MS) : Prop :=
  vp_in s1 157464 ∧ L156 x1 x2 x3 (x4 + (1 : Int32)) (mA st 9 (s1).toNatClampNeg (s2 + s3))
def wX3_make_211 (post : MS → Prop) (L156 : Int32 → Int32 → Int32 → Int32 → MS → Prop) (x1 : Int32) (x2 : Int32) (x3 : Int32) (x4 : Int32) (s1 : Int32) (s2 : Int32) (st : MS) : Prop :=
  wX3_make_212 post L156 x1 x2 x3 x4 s1 s2 (0 : Int32) st
def wX3_make_205 (post : MS → Prop) (L156 : Int32 → Int32 → Int32 → Int32 → MS → Prop) (x1 : Int32) (x2 : Int32) (x3 : Int32) (x4 : Int32) (s1 : Int32) (s2 : Int32) (st : MS) : Prop :=
  wX3_make_212 post L156 x1 x2 x3 x4 s1 s2 (10000 : Int32) st
def wX3_make_192 (post : MS → Prop) (L156 : Int32 → Int32 → Int32 → Int32 → MS → Prop) (x1 : Int32) (x2 : Int32) (x3 : Int32) (x4 : Int32) (s1 : Int32) (s2 : Int32) (st : MS) : Prop :=
  vp_in x4 157464 ∧ (((-5000 : Int32) ≤ (st.1 9 (x4).toNatClampNeg)) → wX3_make_211 post L156 x1 x2 x3 x4 s1 s2 st) ∧ ((¬ (-5000 : Int32) ≤ (st.1 9 (x4).toNatClampNeg)) → wX3_make_205 post L156 x1 x2 x3 x4 s1 s2 st)
def wX3_make_186 (post : MS → Prop) (L156 : Int32 → Int32 → Int32 → Int32 → MS → Prop) (x1 : Int32) (x2 : Int32) (x3 : Int32) (x4 : Int32) (s1 : Int32) (s2 : Int32) (st : MS) : Prop :=
  wX3_make_212 post L156 x1 x2 x3 x4 s1 s2 (-10000 : Int32) st
def wX3_make_165 (post : MS → Prop) (L156 : Int32 → Int32 → Int32 → Int32 → MS → Prop) (x1 : Int32) (x2 : Int32) (x3 : Int32) (x4 : Int32) (st : MS) : Prop :=
  vp_in x4 157464 ∧ vp_in x4 157464 ∧ (((st.1 9 (x4).toNatClampNeg) ≤ (5000 : Int32)) → wX3_make_192 post L156 x1 x2 x3 x4 x4 (st.1 9 (x4).toNatClampNeg) st) ∧ ((¬ (st.1 9 (x4).toNatClampNeg) ≤ (5000 : Int32)) → wX3_make_186 post L156 x1 x2 x3 x4 x4 (st.1 9 (x4).toNatClampNeg) st)
def wX3_make_156_b (post : MS → Prop) (L64 : Int32 → Int32 → Int32 → MS → Prop) (L156 : Int32 → Int32 → Int32 → Int32 → MS → Prop) (x1 : Int32) (x2 : Int32) (x3 : Int32) (x4 : Int32) (st : MS) : Prop :=
  (((x1 + (39366 : Int32)) ≤ x4) → wX3_make_220 post L64 x1 x2 x3 st) ∧ ((¬ (x1 + (39366 : Int32)) ≤ x4) → wX3_make_165 post L156 x1 x2 x3 x4 st)
def wX3_make_156 (post : MS → Prop) (L64 : Int32 → Int32 → Int32 → MS → Prop) (x1 : Int32) (x2 : Int32) (x3 : Int32) (x4 : Int32) (st : MS) : Prop :=
  wloop (V := Int32 × Int32 × Int32 × Int32 × MS) (fun L v => wX3_make_156_b post L64 (fun x1 x2 x3 x4 st => L (x1, x2, x3, x4, st)) v.1 v.2.1 v.2.2.1 v.2.2.2.1 v.2.2.2.2) (x1, x2, x3, x4, st)
def wX3_make_153 (post : MS → Prop) (L64 : Int32 → Int32 → Int32 → MS → Prop) (x1 : Int32) (x2 : Int32) (x3 : Int32) (st : MS) : Prop :=
  wX3_make_156 post L64 x1 x2 x3 x1 st
def wX3_make_147 (post : MS → Prop) (L73 : Int32 → Int32 → Int32 → Int32 → MS → Prop) (x1 : Int32) (x2 : Int32) (x3 : Int32) (x4 : Int32) (st : MS) : Prop :=
  L73 x1 x2 x3 (x4 + (1 : Int32)) st
def wX3_make_143 (post : MS → Prop) (L73 : Int32 → Int32 → Int32 → Int32 → MS → Prop) (x1 : Int32) (x3 : Int32) (x4 : Int32) (s1 : Int32) (s2 : Int32) (s3 : Int32) (st : MS) : Prop :=
  vp_in s1 157464 ∧ wX3_make_147 post L73 x1 (1 : Int32) x3 x4 (mA st 9 (s1).toNatClampNeg (s2 + s3))
def wX3_make_140 (post : MS → Prop) (L73 : Int32 → Int32 → Int32 → Int32 → MS → Prop) (x1 : Int32) (x3 : Int32) (x4 : Int32) (s1 : Int32) (s2 : Int32) (st : MS) : Prop :=
  wX3_make_143 post L73 x1 x3 x4 s1 s2 (-10000 : Int32) st
def wX3_make_134 (post : MS → Prop) (L73 : Int32 → Int32 → Int32 → Int32 → MS → Prop) (x1 : Int32) (x3 : Int32) (x4 : Int32) (s1 : Int32) (s2 : Int32) (st : MS) : Prop :=
  wX3_make_143 post L73 x1 x3 x4 s1 s2 (10000 : Int32) st
def wX3_make_119 (post : MS → Prop) (L73 : Int32 → Int32 → Int32 → Int32 → MS → Prop) (x1 : Int32) (x3 : Int32) (x4 : Int32) (x5 : Int32) (st : MS) : Prop :=
  ((x5 ≤ 0) → wX3_make_140 post L73 x1 x3 x4 (x1 + x4) x5 st) ∧ ((¬ x5 ≤ 0) → wX3_make_134 post L73 x1 x3 x4 (x1 + x4) x5 st)
def wX3_make_109 (post : MS → Prop) (L73 : Int32 → Int32 → Int32 → Int32 → MS → Prop) (x1 : Int32) (x2 : Int32) (x3 : Int32) (x4 : Int32) (s0 : Int32) (st : MS) : Prop :=
  ((s0 = (1000 : Int32)) → wX3_make_147 post L73 x1 x2 x3 x4 st) ∧ ((¬ s0 = (1000 : Int32)) → wX3_make_119 post L73 x1 x3 x4 s0 st)
def wX3_make_106 (post : MS → Prop) (L73 : Int32 → Int32 → Int32 → Int32 → MS → Prop) (x1 : Int32) (x2 : Int32) (x3 : Int32) (x4 : Int32) (st : MS) : Prop :=
  wX3_make_109 post L73 x1 x2 x3 x4 (1000 : Int32) st
def wX3_make_95 (post : MS → Prop) (L73 : Int32 → Int32 → Int32 → Int32 → MS → Prop) (x1 : Int32) (x2 : Int32) (x3 : Int32) (x4 : Int32) (st : MS) : Prop :=
  pX3_found x1 x4 x3 st ∧ ∀ (r_1 : Int32) (st_2 : MS), qX3_found x1 x4 x3 st r_1 st_2 → wX3_make_109 post L73 x1 x2 x3 x4 r_1 st_2
def wX3_make_80 (post : MS → Prop) (L73 : Int32 → Int32 → Int32 → Int32 → MS → Prop) (x1 : Int32) (x2 : Int32) (x3 : Int32) (x4 : Int32) (st : MS) : Prop :=
  vp_in (x1 + x4) 157464 ∧ ((¬ (st.1 9 ((x1 + x4)).toNatClampNeg) = (1000 : Int32)) → wX3_make_106 post L73 x1 x2 x3 x4 st) ∧ (((st.1 9 ((x1 + x4)).toNatClampNeg) = (1000 : Int32)) → wX3_make_95 post L73 x1 x2 x3 x4 st)
def wX3_make_73_b (post : MS → Prop) (L64 : Int32 → Int32 → Int32 → MS → Prop) (L73 : Int32 → Int32 → Int32 → Int32 → MS → Prop) (x1 : Int32) (x2 : Int32) (x3 : Int32) (x4 : Int32) (st : MS) : Prop :=
  (((39366 : Int32) ≤ x4) → wX3_make_153 post L64 x1 x2 x3 st) ∧ ((¬ (39366 : Int32) ≤ x4) → wX3_make_80 post L73 x1 x2 x3 x4 st)
def wX3_make_73 (post : MS → Prop) (L64 : Int32 → Int32 → Int32 → MS → Prop) (x1 : Int32) (x2 : Int32) (x3 : Int32) (x4 : Int32) (st : MS) : Prop :=
  wloop (V := Int32 × Int32 × Int32 × Int32 × MS) (fun L v => wX3_make_73_b post L64 (fun x1 x2 x3 x4 st => L (x1, x2, x3, x4, st)) v.1 v.2.1 v.2.2.1 v.2.2.2.1 v.2.2.2.2) (x1, x2, x3, x4, st)
def wX3_make_68 (post : MS → Prop) (L64 : Int32 → Int32 → Int32 → MS → Prop) (x1 : Int32) (x3 : Int32) (st : MS) : Prop :=
  wX3_make_73 post L64 x1 (0 : Int32) x3 (0 : Int32) st
def wX3_make_64_b (post : MS → Prop) (L64 : Int32 → Int32 → Int32 → MS → Prop) (x1 : Int32) (x2 : Int32) (x3 : Int32) (st : MS) : Prop :=
  ((x2 = 0) → wX3_make_226 post x1 st) ∧ ((¬ x2 = 0) → wX3_make_68 post L64 x1 x3 st)
def wX3_make_64 (post : MS → Prop)  (x1 : Int32) (x2 : Int32) (x3 : Int32) (st : MS) : Prop :=
  wloop (V := Int32 × Int32 × Int32 × MS) (fun L v => wX3_make_64_b post (fun x1 x2 x3 st => L (x1, x2, x3, st)) v.1 v.2.1 v.2.2.1 v.2.2.2) (x1, x2, x3, st)
def wX3_make_60 (post : MS → Prop)  (x1 : Int32) (st : MS) : Prop :=
  wX3_make_64 post x1 (1 : Int32) (1 : Int32) st
def wX3_make_53 (post : MS → Prop) (L2 : Int32 → Int32 → MS → Prop) (x1 : Int32) (x2 : Int32) (s1 : Int32) (s2 : Int32) (st : MS) : Prop :=
  vp_in s1 157464 ∧ L2 x1 (x2 + (1 : Int32)) (mA st 9 (s1).toNatClampNeg s2)
def wX3_make_50 (post : MS → Prop) (L2 : Int32 → Int32 → MS → Prop) (x1 : Int32) (x2 : Int32) (s1 : Int32) (st : MS) : Prop :=
  wX3_make_53 post L2 x1 x2 s1 (1000 : Int32) st
def wX3_make_46 (post : MS → Prop) (L2 : Int32 → Int32 → MS → Prop) (x1 : Int32) (x2 : Int32) (s1 : Int32) (st : MS) : Prop :=
  wX3_make_53 post L2 x1 x2 s1 (-1 : Int32) st
def wX3_make_39 (post : MS → Prop) (L2 : Int32 → Int32 → MS → Prop) (x1 : Int32) (x2 : Int32) (s1 : Int32) (st : MS) : Prop :=
  ((¬ (st.2 4) = 0) → wX3_make_50 post L2 x1 x2 s1 st) ∧ (((st.2 4) = 0) → wX3_make_46 post L2 x1 x2 s1 st)
def wX3_make_33 (post : MS → Prop) (L2 : Int32 → Int32 → MS → Prop) (x1 : Int32) (x2 : Int32) (s1 : Int32) (st : MS) : Prop :=
  wX3_make_53 post L2 x1 x2 s1 (2000 : Int32) st
def wX3_make_8 (post : MS → Prop) (L2 : Int32 → Int32 → MS → Prop) (x1 : Int32) (x2 : Int32) (st : MS) : Prop :=
  pX3_open x2 st ∧ ∀ st_1 : MS, qX3_open x2 st st_1 → pX3_isLegal  st_1 ∧ ∀ r_2 : Int32, qX3_isLegal  st_1 r_2 → pX3_look  st_1 ∧ ∀ st_4 : MS, qX3_look  st_1 st_4 → ((¬ r_2 = 0) → wX3_make_39 post L2 x1 x2 (x1 + x2) st_4) ∧ ((r_2 = 0) → wX3_make_33 post L2 x1 x2 (x1 + x2) st_4)
def wX3_make_2_b (post : MS → Prop) (L2 : Int32 → Int32 → MS → Prop) (x1 : Int32) (x2 : Int32) (st : MS) : Prop :=
  (((39366 : Int32) ≤ x2) → wX3_make_60 post x1 st) ∧ ((¬ (39366 : Int32) ≤ x2) → wX3_make_8 post L2 x1 x2 st)
def wX3_make_2 (post : MS → Prop)  (x1 : Int32) (x2 : Int32) (st : MS) : Prop :=
  wloop (V := Int32 × Int32 × MS) (fun L v => wX3_make_2_b post (fun x1 x2 st => L (x1, x2, st)) v.1 v.2.1 v.2.2) (x1, x2, st)
def wX3_make_0 (post : MS → Prop)  (x1 : Int32) (st : MS) : Prop :=
  wX3_make_2 post x1 (0 : Int32) st
-- table()I
def wX3_table_42 (post : Int32 → MS → Prop)  (x2 : Int32) (st : MS) : Prop :=
  post x2 st
def wX3_table_30 (post : Int32 → MS → Prop)  (x1 : Int32) (x2 : Int32) (st : MS) : Prop :=
  vp_in x1 4 ∧ pX3_make x2 (mA st 10 (x1).toNatClampNeg (vp_nar .boolean (1 : Int32))) ∧ ∀ st_1 : MS, qX3_make x2 (mA st 10 (x1).toNatClampNeg (vp_nar .boolean (1 : Int32))) st_1 → wX3_table_42 post x2 st_1
def wX3_table_0 (post : Int32 → MS → Prop)   (st : MS) : Prop :=
  vp_in (0 : Int32) 7003 ∧ vp_in (1 : Int32) 7003 ∧ vp_in (((2 : Int32) * (st.1 0 ((0 : Int32)).toNatClampNeg)) + (st.1 0 ((1 : Int32)).toNatClampNeg)) 4 ∧ ((¬ (st.1 10 ((((2 : Int32) * (st.1 0 ((0 : Int32)).toNatClampNeg)) + (st.1 0 ((1 : Int32)).toNatClampNeg))).toNatClampNeg) = 0) → wX3_table_42 post ((39366 : Int32) * (((2 : Int32) * (st.1 0 ((0 : Int32)).toNatClampNeg)) + (st.1 0 ((1 : Int32)).toNatClampNeg))) st) ∧ (((st.1 10 ((((2 : Int32) * (st.1 0 ((0 : Int32)).toNatClampNeg)) + (st.1 0 ((1 : Int32)).toNatClampNeg))).toNatClampNeg) = 0) → wX3_table_30 post (((2 : Int32) * (st.1 0 ((0 : Int32)).toNatClampNeg)) + (st.1 0 ((1 : Int32)).toNatClampNeg)) ((39366 : Int32) * (((2 : Int32) * (st.1 0 ((0 : Int32)).toNatClampNeg)) + (st.1 0 ((1 : Int32)).toNatClampNeg))) st)
-- worthAt(I)I
def wX3_worthAt_0 (post : Int32 → MS → Prop)  (x1 : Int32) (st : MS) : Prop :=
  pX3_table  st ∧ ∀ (r_1 : Int32) (st_2 : MS), qX3_table  st r_1 st_2 → vp_in (r_1 + x1) 157464 ∧ post (st_2.1 9 ((r_1 + x1)).toNatClampNeg) st_2
