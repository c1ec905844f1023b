/-! WP of Table.<init>, printed by gen_tinit2.py -/
def wX5_init_93 (ad : Nat → Nat) (post : (Nat → Nat) × MS → Prop)   (st : MS) (kc : Nat) (ks : Nat) : Prop :=
  post (ad, st) ∧ kc ≤ 15 ∧ ks ≤ 266887
def wX5_init_80 (ad : Nat → Nat) (post : (Nat → Nat) × MS → Prop) (L76 : Int32 → Int32 → MS → Nat → Nat → Prop) (x4 : Int32) (st : MS) (kc : Nat) (ks : Nat) : Prop :=
  pX5_level x4 st ∧ ∃ N_3, (st.2 2 = nI N_3 ∧ N_3 < 100000000) ∧ (kc + 1 ≤ 15 ∧ ks + N_3 ≤ 266887) ∧ ∀ (r_2 : Int32) (st_1 : MS), qX5_level x4 st r_2 st_1 → L76 r_2 (x4 + (1 : Int32)) st_1 (kc + 1) (ks + N_3)
def wX5_init_76_b (ad : Nat → Nat) (post : (Nat → Nat) × MS → Prop) (L76 : Int32 → Int32 → MS → Nat → Nat → Prop) (x3 : Int32) (x4 : Int32) (st : MS) (kc : Nat) (ks : Nat) : Prop :=
  ((x3 ≤ 0) → wX5_init_93 ad post st kc ks) ∧ ((¬ x3 ≤ 0) → wX5_init_80 ad post L76 x4 st kc ks)
def wX5_init_76 (ad : Nat → Nat) (post : (Nat → Nat) × MS → Prop)  (x3 : Int32) (x4 : Int32) (st : MS) (kc : Nat) (ks : Nat) : Prop :=
  wloop (V := Int32 × Int32 × MS × Nat × Nat) (fun L v => wX5_init_76_b ad post (fun x3 x4 st kc ks => L (x3, x4, st, kc, ks)) v.1 v.2.1 v.2.2.1 v.2.2.2.1 v.2.2.2.2) (x3, x4, st, kc, ks)
def wX5_init_67 (ad : Nat → Nat) (post : (Nat → Nat) × MS → Prop)   (st : MS) (kc : Nat) (ks : Nat) : Prop :=
  pX5_findLegal st ∧ (kc ≤ 15 ∧ ks ≤ 266887) ∧ ∀ st_1 : MS, qX5_findLegal st st_1 → wX5_init_76 ad post (1 : Int32) (1 : Int32) st_1 kc ks
def wX5_init_41 (ad : Nat → Nat) (post : (Nat → Nat) × MS → Prop) (L34 : Int32 → MS → Nat → Nat → Prop) (x3 : Int32) (st : MS) (kc : Nat) (ks : Nat) : Prop :=
  vp_in (x3 >>> ((1 : Int32) &&& 31)) 512 ∧ vp_in x3 512 ∧ L34 (x3 + (1 : Int32)) (mA st 1 (x3).toNatClampNeg (((3 : Int32) * (st.1 1 ((x3 >>> ((1 : Int32) &&& 31))).toNatClampNeg)) + (x3 &&& (1 : Int32)))) kc ks
def wX5_init_34_b (ad : Nat → Nat) (post : (Nat → Nat) × MS → Prop) (L34 : Int32 → MS → Nat → Nat → Prop) (x3 : Int32) (st : MS) (kc : Nat) (ks : Nat) : Prop :=
  (((511 : Int32) < x3) → wX5_init_67 ad post st kc ks) ∧ ((¬ (511 : Int32) < x3) → wX5_init_41 ad post L34 x3 st kc ks)
def wX5_init_34 (ad : Nat → Nat) (post : (Nat → Nat) × MS → Prop)  (x3 : Int32) (st : MS) (kc : Nat) (ks : Nat) : Prop :=
  wloop (V := Int32 × MS × Nat × Nat) (fun L v => wX5_init_34_b ad post (fun x3 st kc ks => L (x3, st, kc, ks)) v.1 v.2.1 v.2.2.1 v.2.2.2) (x3, st, kc, ks)
